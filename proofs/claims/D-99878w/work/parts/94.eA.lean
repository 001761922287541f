/-! JDK: text constants, builders, strings -/
abbrev csZ (E : zE) : Prop := zsZ E "java/lang/String" "COMPACT_STRINGS" "Z" (.int (nI 1))
theorem shr0 (x : Int32) : x >>> (nI 0 &&& 31) = x := by
  have e : (nI 0 &&& 31 : Int32) = 0 := by decide
  rw [e]; simp
theorem nar_b0 : narrow .byte (.int (nI 0)) = .int (nI 0) := rfl
theorem i_and255 {q : Nat} (hq : q < 128) : nI q &&& nI 255 = nI q := by
  rw [nx_and]
  congr 1
  have : (255 : Nat) = 2 ^ 8 - 1 := rfl
  rw [this, Nat.and_two_pow_sub_one_eq_mod]
  omega
theorem i_c2 {q : Nat} (hq : q < 128) : ((nI q).toUInt32 % 65536).toInt32 = nI q := by
  have : ∀ q, q < 128 → ((nI q).toUInt32 % 65536).toInt32 = nI q := by decide
  exact this q hq
theorem nar_c {q : Nat} (hq : q < 128) : narrow .char (.int (nI q)) = .int (nI q) := by
  have : ∀ q, q < 128 → (nI q).toUInt32.toUInt16.toUInt32.toInt32 = nI q := by decide
  show Value.int _ = _
  rw [this q hq]
theorem i_b2 {q : Nat} (hq : q < 128) : (nI q).toInt8.toInt32 = nI q := by
  have : ∀ q, q < 128 → (nI q).toInt8.toInt32 = nI q := by decide
  exact this q hq
theorem nar_b {q : Nat} (hq : q < 128) : vp_nar .byte (nI q) = nI q := i_b2 hq
section EA
variable {l : Launch} {E : zE} {z : Nat} {h : Nat → Option zSh} {S : Nat → Nat → Int32} {L : Nat → Nat → Int64}
/-- a text constant: object b, its bytes at va -/
def isKo (E : zE) (b va N : Nat) (f : Nat → Int32) : Prop := zsC E "java/lang/String" b ∧ zsO E "java/lang/String" "coder" "B" (.int (nI 0)) b ∧ zsO E "java/lang/String" "value" "[B" (.ref va) b ∧ zsT E .byte va N (fun j => .int (f j)) ∧ N < 1000
theorem zJ8_coder {b va N : Nat} {f : Nat → Int32} (hc : csZ E) (hK : isKo E b va N f) (X : zX) : zM l E 0 YJ8_coder [.ref b] X 0 0 (fun r X' => r = some (.int (nI 0)) ∧ X' = X) (fun _ _ => False) := by
  obtain ⟨k1, k2, k3, k4, k5⟩ := hK
  refine zM.go rfl rfl (Nat.le_of_ble_eq_true rfl) (ls := [some (.ref b)]) rfl ?_
  intro V hVl hVE hVd hVc hVs hVQ hVX
  rw [← hVE] at hc k2
  refine sJ8_coder_0 (v0 := .int (nI 1)) (v7 := .int (nI 0)) _ _ _ _ _ ?_
  simp (disch := omega) only [oAld, oGetO, oGetS, oIf, oNop, oPush, oRN, hc, k2, nar_b0, List.getElem?_cons_zero, List.getElem?_cons_succ, List.set_cons_zero, List.set_cons_succ, List.drop_succ_cons, List.drop_zero, List.take_succ_cons, List.take_zero, List.length_cons, List.length_nil, List.reverse_cons, List.reverse_nil, List.nil_append, List.cons_append, Option.toList_some, Option.toList_none, va_rf_s, true_and, and_true, true_implies, false_implies, not_true_eq_false, not_false_eq_true, Nat.reduceAdd, Nat.reduceLeDiff, Nat.le_add_left, Nat.zero_le, Nat.le_refl, znew, true_or, or_true, b01_t, b01_f, b01_ok, bool_ft, vp_b01, vp_b0, vp_b1, b01_eq0, b01_eq1, implies_true, nI_add, nI_clamp, zi_in, zi_le_t, zi_le_f, zi_lt_t, zi_lt_f, zi_eq_t, zi_eq_f, nI_leI, nI_ltI, nI_eq, z_in, pk_mul, zu_same, zu_rw, zu_ix, zi_ne0, zi_sub, zi_m1, Nat.add_sub_cancel, Nat.reduceMul, Nat.reduceSub]
  exact hVQ _ _ ⟨rfl, rfl⟩
theorem zJ8_isLatin1 {b va N : Nat} {f : Nat → Int32} (hc : csZ E) (hK : isKo E b va N f) (X : zX) : zM l E 0 YJ8_isLatin1 [.ref b] X 0 0 (fun r X' => r = some (.int (nI 1)) ∧ X' = X) (fun _ _ => False) := by
  obtain ⟨k1, k2, k3, k4, k5⟩ := hK
  refine zM.go rfl rfl (Nat.le_of_ble_eq_true rfl) (ls := [some (.ref b)]) rfl ?_
  intro V hVl hVE hVd hVc hVs hVQ hVX
  rw [← hVE] at hc k2
  refine sJ8_isLatin1_0 (v0 := .int (nI 1)) (v7 := .int (nI 0)) _ _ _ _ _ ?_
  simp (disch := omega) only [oAld, oGetO, oGetS, oIf, oNop, oPush, oRZ, hc, k2, List.getElem?_cons_zero, List.getElem?_cons_succ, List.set_cons_zero, List.set_cons_succ, List.drop_succ_cons, List.drop_zero, List.take_succ_cons, List.take_zero, List.length_cons, List.length_nil, List.reverse_cons, List.reverse_nil, List.nil_append, List.cons_append, Option.toList_some, Option.toList_none, va_rf_s, true_and, and_true, true_implies, false_implies, not_true_eq_false, not_false_eq_true, Nat.reduceAdd, Nat.reduceLeDiff, Nat.le_add_left, Nat.zero_le, Nat.le_refl, znew, true_or, or_true, b01_t, b01_f, b01_ok, bool_ft, vp_b01, vp_b0, vp_b1, b01_eq0, b01_eq1, implies_true, nI_add, nI_clamp, zi_in, zi_le_t, zi_le_f, zi_lt_t, zi_lt_f, zi_eq_t, zi_eq_f, nI_leI, nI_ltI, nI_eq, z_in, pk_mul, zu_same, zu_rw, zu_ix, zi_ne0, zi_sub, zi_m1, Nat.add_sub_cancel, Nat.reduceMul, Nat.reduceSub]
  exact hVQ _ _ ⟨rfl, rfl⟩
theorem zJ8_length {b va N : Nat} {f : Nat → Int32} (hc : csZ E) (hK : isKo E b va N f) (X : zX) : zM l E 1 YJ8_length [.ref b] X 0 0 (fun r X' => r = some (.int (nI N)) ∧ X' = X) (fun _ _ => False) := by
  obtain ⟨k1, k2, k3, k4, k5⟩ := id hK
  refine zM.go rfl rfl (Nat.le_of_ble_eq_true rfl) (ls := [some (.ref b)]) rfl ?_
  intro V hVl hVE hVd hVc hVs hVQ hVX
  have hL0 : zsL V.2.1 X.2.1 1 va N := Or.inl ⟨_, by rw [hVE]; exact k4⟩
  rw [← hVE] at k1 k3
  refine sJ8_length_0 (v1 := .ref va) (n4 := N) _ _ _ _ _ ?_
  simp (disch := omega) only [oAld, oCVo, oGetO, oLenO, k1, k3, hL0, List.getElem?_cons_zero, List.getElem?_cons_succ, List.set_cons_zero, List.set_cons_succ, List.drop_succ_cons, List.drop_zero, List.take_succ_cons, List.take_zero, List.length_cons, List.length_nil, List.reverse_cons, List.reverse_nil, List.nil_append, List.cons_append, Option.toList_some, Option.toList_none, va_rf_s, true_and, and_true, true_implies, false_implies, not_true_eq_false, not_false_eq_true, Nat.reduceAdd, Nat.reduceLeDiff, Nat.le_add_left, Nat.zero_le, Nat.le_refl, znew, true_or, or_true, b01_t, b01_f, b01_ok, bool_ft, vp_b01, vp_b0, vp_b1, b01_eq0, b01_eq1, implies_true, nI_add, nI_clamp, zi_in, zi_le_t, zi_le_f, zi_lt_t, zi_lt_f, zi_eq_t, zi_eq_f, nI_leI, nI_ltI, nI_eq, z_in, pk_mul, zu_same, zu_rw, zu_ix, zi_ne0, zi_sub, zi_m1, Nat.add_sub_cancel, Nat.reduceMul, Nat.reduceSub]
  refine zC.of0 (zJ8_coder (by rw [hVE]; exact hc) (by rw [hVE]; exact hK) X) (by omega) (Nat.zero_le _) (Nat.zero_le _) ?_
  rintro _ _ ⟨rfl, rfl⟩
  refine sJ8_length_9 _ _ _ _ _ ?_
  simp (disch := omega) only [oBin, oRI, shr0, List.getElem?_cons_zero, List.getElem?_cons_succ, List.set_cons_zero, List.set_cons_succ, List.drop_succ_cons, List.drop_zero, List.take_succ_cons, List.take_zero, List.length_cons, List.length_nil, List.reverse_cons, List.reverse_nil, List.nil_append, List.cons_append, Option.toList_some, Option.toList_none, va_rf_s, true_and, and_true, true_implies, false_implies, not_true_eq_false, not_false_eq_true, Nat.reduceAdd, Nat.reduceLeDiff, Nat.le_add_left, Nat.zero_le, Nat.le_refl, znew, true_or, or_true, b01_t, b01_f, b01_ok, bool_ft, vp_b01, vp_b0, vp_b1, b01_eq0, b01_eq1, implies_true, nI_add, nI_clamp, zi_in, zi_le_t, zi_le_f, zi_lt_t, zi_lt_f, zi_eq_t, zi_eq_f, nI_leI, nI_ltI, nI_eq, z_in, pk_mul, zu_same, zu_rw, zu_ix, zi_ne0, zi_sub, zi_m1, Nat.add_sub_cancel, Nat.reduceMul, Nat.reduceSub]
  exact hVQ _ _ ⟨rfl, rfl⟩
theorem zJ7_checkI {i n : Nat} (hi : i < n) (hn : n < 1000) {o : Option Nat} (X : zX) : zM l E 0 YJ7_checkIndex [.int (nI i), .int (nI n), va_rf o] X 0 0 (fun r X' => r = some (.int (nI i)) ∧ X' = X) (fun _ _ => False) := by
  cases o with
  | none =>
    exact zJ7_checkIndex hi hn X
  | some q =>
    rw [va_rf_s]
    refine zM.go rfl rfl (Nat.le_of_ble_eq_true rfl) (ls := [some (.int (nI i)), some (.int (nI n)), some (.ref q)]) rfl ?_
    intro V hVl hVE hVd hVc hVs hVQ hVX
    refine sJ7_checkIndex_0 _ _ _ _ _ ?_
    simp (disch := omega) only [oAld, oBot, oIf, oIfc, oIld, oRI, List.getElem?_cons_zero, List.getElem?_cons_succ, List.set_cons_zero, List.set_cons_succ, List.drop_succ_cons, List.drop_zero, List.take_succ_cons, List.take_zero, List.length_cons, List.length_nil, List.reverse_cons, List.reverse_nil, List.nil_append, List.cons_append, Option.toList_some, Option.toList_none, va_rf_s, true_and, and_true, true_implies, false_implies, not_true_eq_false, not_false_eq_true, Nat.reduceAdd, Nat.reduceLeDiff, Nat.le_add_left, Nat.zero_le, Nat.le_refl, znew, true_or, or_true, b01_t, b01_f, b01_ok, bool_ft, vp_b01, vp_b0, vp_b1, b01_eq0, b01_eq1, implies_true, nI_add, nI_clamp, zi_in, zi_le_t, zi_le_f, zi_lt_t, zi_lt_f, zi_eq_t, zi_eq_f, nI_leI, nI_ltI, nI_eq, z_in, pk_mul, zu_same, zu_rw, zu_ix, zi_ne0, zi_sub, zi_m1, Nat.add_sub_cancel, Nat.reduceMul, Nat.reduceSub]
    exact hVQ _ _ ⟨rfl, rfl⟩
abbrev siZ (E : zE) (o : Option Nat) : Prop := zsZ E "jdk/internal/util/Preconditions" "SIOOBE_FORMATTER" "Ljava/util/function/BiFunction;" (va_rf o)
theorem zJ8_checkIndex {i n : Nat} {o : Option Nat} (hs : siZ E o) (hi : i < n) (hn : n < 1000) (X : zX) : zM l E 1 YJ8_checkIndex [.int (nI i), .int (nI n)] X 0 0 (fun r X' => r = none ∧ X' = X) (fun _ _ => False) := by
  refine zM.go rfl rfl (Nat.le_of_ble_eq_true rfl) (ls := [some (.int (nI i)), some (.int (nI n))]) rfl ?_
  intro V hVl hVE hVd hVc hVs hVQ hVX
  rw [← hVE] at hs
  refine sJ8_checkIndex_0 (v2 := va_rf o) _ _ _ _ _ ?_
  simp (disch := omega) only [oCS, oGetS, oIld, hs, List.getElem?_cons_zero, List.getElem?_cons_succ, List.set_cons_zero, List.set_cons_succ, List.drop_succ_cons, List.drop_zero, List.take_succ_cons, List.take_zero, List.length_cons, List.length_nil, List.reverse_cons, List.reverse_nil, List.nil_append, List.cons_append, Option.toList_some, Option.toList_none, va_rf_s, true_and, and_true, true_implies, false_implies, not_true_eq_false, not_false_eq_true, Nat.reduceAdd, Nat.reduceLeDiff, Nat.le_add_left, Nat.zero_le, Nat.le_refl, znew, true_or, or_true, b01_t, b01_f, b01_ok, bool_ft, vp_b01, vp_b0, vp_b1, b01_eq0, b01_eq1, implies_true, nI_add, nI_clamp, zi_in, zi_le_t, zi_le_f, zi_lt_t, zi_lt_f, zi_eq_t, zi_eq_f, nI_leI, nI_ltI, nI_eq, z_in, pk_mul, zu_same, zu_rw, zu_ix, zi_ne0, zi_sub, zi_m1, Nat.add_sub_cancel, Nat.reduceMul, Nat.reduceSub]
  refine zC.of0 (zJ7_checkI hi hn X) (by omega) (Nat.zero_le _) (Nat.zero_le _) ?_
  rintro _ _ ⟨rfl, rfl⟩
  refine sJ8_checkIndex_8 _ _ _ _ _ ?_
  simp (disch := omega) only [oPop, oRV, List.getElem?_cons_zero, List.getElem?_cons_succ, List.set_cons_zero, List.set_cons_succ, List.drop_succ_cons, List.drop_zero, List.take_succ_cons, List.take_zero, List.length_cons, List.length_nil, List.reverse_cons, List.reverse_nil, List.nil_append, List.cons_append, Option.toList_some, Option.toList_none, va_rf_s, true_and, and_true, true_implies, false_implies, not_true_eq_false, not_false_eq_true, Nat.reduceAdd, Nat.reduceLeDiff, Nat.le_add_left, Nat.zero_le, Nat.le_refl, znew, true_or, or_true, b01_t, b01_f, b01_ok, bool_ft, vp_b01, vp_b0, vp_b1, b01_eq0, b01_eq1, implies_true, nI_add, nI_clamp, zi_in, zi_le_t, zi_le_f, zi_lt_t, zi_lt_f, zi_eq_t, zi_eq_f, nI_leI, nI_ltI, nI_eq, z_in, pk_mul, zu_same, zu_rw, zu_ix, zi_ne0, zi_sub, zi_m1, Nat.add_sub_cancel, Nat.reduceMul, Nat.reduceSub]
  exact hVQ _ _ ⟨rfl, rfl⟩
theorem zJ9_charAt {va N i q : Nat} {f : Nat → Int32} {o : Option Nat} (hs : siZ E o) (hT : zsT E .byte va N (fun j => .int (f j))) (hN : N < 1000) (hi : i < N) (hf : f i = nI q) (hq : q < 128) (X : zX) : zM l E 2 YJ9_charAt [.ref va, .int (nI i)] X 0 0 (fun r X' => r = some (.int (nI q)) ∧ X' = X) (fun _ _ => False) := by
  refine zM.go rfl rfl (Nat.le_of_ble_eq_true rfl) (ls := [some (.ref va), some (.int (nI i))]) rfl ?_
  intro V hVl hVE hVd hVc hVs hVQ hVX
  have hL0 : zsL V.2.1 X.2.1 1 va N := Or.inl ⟨_, by rw [hVE]; exact hT⟩
  refine sJ9_charAt_0 (n2 := N) _ _ _ _ _ ?_
  simp (disch := omega) only [oAld, oCS, oIld, oLenO, hL0, List.getElem?_cons_zero, List.getElem?_cons_succ, List.set_cons_zero, List.set_cons_succ, List.drop_succ_cons, List.drop_zero, List.take_succ_cons, List.take_zero, List.length_cons, List.length_nil, List.reverse_cons, List.reverse_nil, List.nil_append, List.cons_append, Option.toList_some, Option.toList_none, va_rf_s, true_and, and_true, true_implies, false_implies, not_true_eq_false, not_false_eq_true, Nat.reduceAdd, Nat.reduceLeDiff, Nat.le_add_left, Nat.zero_le, Nat.le_refl, znew, true_or, or_true, b01_t, b01_f, b01_ok, bool_ft, vp_b01, vp_b0, vp_b1, b01_eq0, b01_eq1, implies_true, nI_add, nI_clamp, zi_in, zi_le_t, zi_le_f, zi_lt_t, zi_lt_f, zi_eq_t, zi_eq_f, nI_leI, nI_ltI, nI_eq, z_in, pk_mul, zu_same, zu_rw, zu_ix, zi_ne0, zi_sub, zi_m1, Nat.add_sub_cancel, Nat.reduceMul, Nat.reduceSub]
  refine zC.of0 (zJ8_checkIndex (by rw [hVE]; exact hs) hi hN X) (by omega) (Nat.zero_le _) (Nat.zero_le _) ?_
  rintro _ _ ⟨rfl, rfl⟩
  rw [← hVE] at hT
  refine sJ9_charAt_6 (n8 := N) (f8 := f) _ _ _ _ _ ?_
  simp (disch := omega) only [oAld, oBaldO, oBin, oIld, oPush, oRN, oUn, hT, hf, i_and255, i_c2, nar_c, List.getElem?_cons_zero, List.getElem?_cons_succ, List.set_cons_zero, List.set_cons_succ, List.drop_succ_cons, List.drop_zero, List.take_succ_cons, List.take_zero, List.length_cons, List.length_nil, List.reverse_cons, List.reverse_nil, List.nil_append, List.cons_append, Option.toList_some, Option.toList_none, va_rf_s, true_and, and_true, true_implies, false_implies, not_true_eq_false, not_false_eq_true, Nat.reduceAdd, Nat.reduceLeDiff, Nat.le_add_left, Nat.zero_le, Nat.le_refl, znew, true_or, or_true, b01_t, b01_f, b01_ok, bool_ft, vp_b01, vp_b0, vp_b1, b01_eq0, b01_eq1, implies_true, nI_add, nI_clamp, zi_in, zi_le_t, zi_le_f, zi_lt_t, zi_lt_f, zi_eq_t, zi_eq_f, nI_leI, nI_ltI, nI_eq, z_in, pk_mul, zu_same, zu_rw, zu_ix, zi_ne0, zi_sub, zi_m1, Nat.add_sub_cancel, Nat.reduceMul, Nat.reduceSub]
  exact hVQ _ _ ⟨rfl, rfl⟩
theorem zJ8_charAt {b va N i q : Nat} {f : Nat → Int32} {o : Option Nat} (hc : csZ E) (hs : siZ E o) (hK : isKo E b va N f) (hi : i < N) (hf : f i = nI q) (hq : q < 128) (X : zX) : zM l E 3 YJ8_charAt [.ref b, .int (nI i)] X 0 0 (fun r X' => r = some (.int (nI q)) ∧ X' = X) (fun _ _ => False) := by
  obtain ⟨k1, k2, k3, k4, k5⟩ := id hK
  refine zM.go rfl rfl (Nat.le_of_ble_eq_true rfl) (ls := [some (.ref b), some (.int (nI i))]) rfl ?_
  intro V hVl hVE hVd hVc hVs hVQ hVX
  rw [← hVE] at k1 k3
  refine sJ8_charAt_0 _ _ _ _ _ ?_
  simp (disch := omega) only [oAld, oCVo, k1, List.getElem?_cons_zero, List.getElem?_cons_succ, List.set_cons_zero, List.set_cons_succ, List.drop_succ_cons, List.drop_zero, List.take_succ_cons, List.take_zero, List.length_cons, List.length_nil, List.reverse_cons, List.reverse_nil, List.nil_append, List.cons_append, Option.toList_some, Option.toList_none, va_rf_s, true_and, and_true, true_implies, false_implies, not_true_eq_false, not_false_eq_true, Nat.reduceAdd, Nat.reduceLeDiff, Nat.le_add_left, Nat.zero_le, Nat.le_refl, znew, true_or, or_true, b01_t, b01_f, b01_ok, bool_ft, vp_b01, vp_b0, vp_b1, b01_eq0, b01_eq1, implies_true, nI_add, nI_clamp, zi_in, zi_le_t, zi_le_f, zi_lt_t, zi_lt_f, zi_eq_t, zi_eq_f, nI_leI, nI_ltI, nI_eq, z_in, pk_mul, zu_same, zu_rw, zu_ix, zi_ne0, zi_sub, zi_m1, Nat.add_sub_cancel, Nat.reduceMul, Nat.reduceSub]
  refine zC.of0 (zJ8_isLatin1 (by rw [hVE]; exact hc) (by rw [hVE]; exact hK) X) (by omega) (Nat.zero_le _) (Nat.zero_le _) ?_
  rintro _ _ ⟨rfl, rfl⟩
  refine sJ8_charAt_4 (v8 := .ref va) _ _ _ _ _ ?_
  simp (disch := omega) only [oAld, oBot, oCS, oGetO, oIf, oIld, k3, List.getElem?_cons_zero, List.getElem?_cons_succ, List.set_cons_zero, List.set_cons_succ, List.drop_succ_cons, List.drop_zero, List.take_succ_cons, List.take_zero, List.length_cons, List.length_nil, List.reverse_cons, List.reverse_nil, List.nil_append, List.cons_append, Option.toList_some, Option.toList_none, va_rf_s, true_and, and_true, true_implies, false_implies, not_true_eq_false, not_false_eq_true, Nat.reduceAdd, Nat.reduceLeDiff, Nat.le_add_left, Nat.zero_le, Nat.le_refl, znew, true_or, or_true, b01_t, b01_f, b01_ok, bool_ft, vp_b01, vp_b0, vp_b1, b01_eq0, b01_eq1, implies_true, nI_add, nI_clamp, zi_in, zi_le_t, zi_le_f, zi_lt_t, zi_lt_f, zi_eq_t, zi_eq_f, nI_leI, nI_ltI, nI_eq, z_in, pk_mul, zu_same, zu_rw, zu_ix, zi_ne0, zi_sub, zi_m1, Nat.add_sub_cancel, Nat.reduceMul, Nat.reduceSub]
  refine zC.of0 (zJ9_charAt (by rw [hVE]; exact hs) (by rw [hVE]; exact k4) k5 hi hf hq _) (by omega) (Nat.zero_le _) (Nat.zero_le _) ?_
  rintro _ _ ⟨rfl, rfl⟩
  refine sJ8_charAt_15 _ _ _ _ _ ?_
  simp (disch := omega) only [oRN, nar_c, List.getElem?_cons_zero, List.getElem?_cons_succ, List.set_cons_zero, List.set_cons_succ, List.drop_succ_cons, List.drop_zero, List.take_succ_cons, List.take_zero, List.length_cons, List.length_nil, List.reverse_cons, List.reverse_nil, List.nil_append, List.cons_append, Option.toList_some, Option.toList_none, va_rf_s, true_and, and_true, true_implies, false_implies, not_true_eq_false, not_false_eq_true, Nat.reduceAdd, Nat.reduceLeDiff, Nat.le_add_left, Nat.zero_le, Nat.le_refl, znew, true_or, or_true, b01_t, b01_f, b01_ok, bool_ft, vp_b01, vp_b0, vp_b1, b01_eq0, b01_eq1, implies_true, nI_add, nI_clamp, zi_in, zi_le_t, zi_le_f, zi_lt_t, zi_lt_f, zi_eq_t, zi_eq_f, nI_leI, nI_ltI, nI_eq, z_in, pk_mul, zu_same, zu_rw, zu_ix, zi_ne0, zi_sub, zi_m1, Nat.add_sub_cancel, Nat.reduceMul, Nat.reduceSub]
  exact hVQ _ _ ⟨rfl, rfl⟩
/-- a string that was made: its letters -/
def isSt (h : Nat → Option zSh) (S : Nat → Nat → Int32) (ok : Nat → Prop) (sa : Nat) (w : List Nat) : Prop := ok sa ∧ zt h sa = 32 ∧ S sa 1 = nI 0 ∧ ∃ va, ok va ∧ zr h sa 0 = some va ∧ zt h va = 1 ∧ zn h va = w.length ∧ w.length ≤ 8 ∧ ∀ i, i < w.length → S va i = nI (w.getD i 0 + 96) ∧ w.getD i 0 ≤ 26
theorem isSt.fr {h h' : Nat → Option zSh} {S S' : Nat → Nat → Int32} {ok ok' : Nat → Prop} {sa : Nat} {w : List Nat} (hS : ∀ a, ok a → S' a = S a) (hh : ∀ a, ok a → h' a = h a) (hok : ∀ a, ok a → ok' a) (hL : isSt h S ok sa w) : isSt h' S' ok' sa w := by
  obtain ⟨h0, h1, h2, va, h3, h4, h5, h6, h7, h8⟩ := hL
  have ft : ∀ b, ok b → zt h' b = zt h b ∧ zn h' b = zn h b ∧ zr h' b = zr h b := fun b hb => by unfold zt zn zr; rw [hh b hb]; exact ⟨rfl, rfl, rfl⟩
  refine ⟨hok _ h0, by rw [(ft _ h0).1]; exact h1, by rw [hS _ h0]; exact h2, va, hok _ h3, by rw [(ft _ h0).2.2]; exact h4, by rw [(ft _ h3).1]; exact h5, by rw [(ft _ h3).2.1]; exact h6, h7, fun i hi => by rw [hS _ h3]; exact h8 i hi⟩
theorem zJ9_equals {ok : Nat → Prop} {va vb : Nat} {w u : List Nat} (a1 : zt h va = 1 ∧ zn h va = w.length ∧ w.length ≤ 8 ∧ ∀ i, i < w.length → S va i = nI (w.getD i 0 + 96) ∧ w.getD i 0 ≤ 26) (b1 : zt h vb = 1 ∧ zn h vb = u.length ∧ u.length ≤ 8 ∧ ∀ i, i < u.length → S vb i = nI (u.getD i 0 + 96) ∧ u.getD i 0 ≤ 26) : zM l E 0 YJ9_equals [.ref va, .ref vb] (z, h, S, L) 0 0 (fun r X' => r = some (.int (b01 (decide (w = u)))) ∧ X' = (z, h, S, L)) (fun _ _ => False) := by
  obtain ⟨a1, a2, a3, a4⟩ := a1
  obtain ⟨b1, b2, b3, b4⟩ := b1
  refine zM.go rfl rfl (Nat.le_of_ble_eq_true rfl) (ls := [some (.ref va), some (.ref vb), none]) rfl ?_
  intro V hVl hVE hVd hVc hVs hVQ hVX
  by_cases hl : w.length = u.length
  · have loop : ∀ i, i ≤ w.length → (∀ j, j < i → w.getD j 0 = u.getD j 0) → zW V YJ9_equals 9 [some (.ref va), some (.ref vb), some (.int (nI i))] [] (z, h, S, L) 0 0 := by
      refine z_down ?_ (fun i hi ih => ?_)
      · intro he
        refine sJ9_equals_9 _ _ _ _ _ ?_
        simp (disch := omega) only [oAld, oAld1, oIfc, oIld, oInc, oLen, oNop, oPush, oRZ, a1, a2, List.getElem?_cons_zero, List.getElem?_cons_succ, List.set_cons_zero, List.set_cons_succ, List.drop_succ_cons, List.drop_zero, List.take_succ_cons, List.take_zero, List.length_cons, List.length_nil, List.reverse_cons, List.reverse_nil, List.nil_append, List.cons_append, Option.toList_some, Option.toList_none, va_rf_s, true_and, and_true, true_implies, false_implies, not_true_eq_false, not_false_eq_true, Nat.reduceAdd, Nat.reduceLeDiff, Nat.le_add_left, Nat.zero_le, Nat.le_refl, znew, true_or, or_true, b01_t, b01_f, b01_ok, bool_ft, vp_b01, vp_b0, vp_b1, b01_eq0, b01_eq1, implies_true, nI_add, nI_clamp, zi_in, zi_le_t, zi_le_f, zi_lt_t, zi_lt_f, zi_eq_t, zi_eq_f, nI_leI, nI_ltI, nI_eq, z_in, pk_mul, zu_same, zu_rw, zu_ix, zi_ne0, zi_sub, zi_m1, Nat.add_sub_cancel, Nat.reduceMul, Nat.reduceSub]
        refine hVQ _ _ ⟨?_, rfl⟩
        have : w = u := by
          refine List.ext_getElem? (fun j => ?_)
          by_cases hj : j < w.length
          · have := he j hj
            rw [List.getD_eq_getElem?_getD, List.getD_eq_getElem?_getD, List.getElem?_eq_getElem hj, List.getElem?_eq_getElem (by omega)] at this
            rw [List.getElem?_eq_getElem hj, List.getElem?_eq_getElem (by omega)]
            exact congrArg some this
          · rw [List.getElem?_eq_none (by omega), List.getElem?_eq_none (by omega)]
        rw [decide_eq_true this]; rfl
      · intro he
        obtain ⟨c1, c2⟩ := a4 i hi
        obtain ⟨c3, c4⟩ := b4 i (by omega)
        by_cases hx : w.getD i 0 = u.getD i 0
        · have hx' : (nI (w.getD i 0 + 96) = nI (u.getD i 0 + 96)) = True := eq_true (by rw [hx])
          refine sJ9_equals_9 _ _ _ _ _ ?_
          simp (disch := omega) only [oAld, oAld1, oIfc, oIld, oInc, oLen, oNop, oPush, oRZ, a1, a2, b1, b2, c1, c3, hx', List.getElem?_cons_zero, List.getElem?_cons_succ, List.set_cons_zero, List.set_cons_succ, List.drop_succ_cons, List.drop_zero, List.take_succ_cons, List.take_zero, List.length_cons, List.length_nil, List.reverse_cons, List.reverse_nil, List.nil_append, List.cons_append, Option.toList_some, Option.toList_none, va_rf_s, true_and, and_true, true_implies, false_implies, not_true_eq_false, not_false_eq_true, Nat.reduceAdd, Nat.reduceLeDiff, Nat.le_add_left, Nat.zero_le, Nat.le_refl, znew, true_or, or_true, b01_t, b01_f, b01_ok, bool_ft, vp_b01, vp_b0, vp_b1, b01_eq0, b01_eq1, implies_true, nI_add, nI_clamp, zi_in, zi_le_t, zi_le_f, zi_lt_t, zi_lt_f, zi_eq_t, zi_eq_f, nI_leI, nI_ltI, nI_eq, z_in, pk_mul, zu_same, zu_rw, zu_ix, zi_ne0, zi_sub, zi_m1, Nat.add_sub_cancel, Nat.reduceMul, Nat.reduceSub]
          refine ih (fun j hj => ?_)
          by_cases e : j = i
          · rw [e]; exact hx
          · exact he j (by omega)
        · have hx' : (nI (w.getD i 0 + 96) = nI (u.getD i 0 + 96)) = False := eq_false (fun q => hx (by rw [nI_eq (by omega) (by omega)] at q; omega))
          refine sJ9_equals_9 _ _ _ _ _ ?_
          simp (disch := omega) only [oAld, oAld1, oIfc, oIld, oInc, oLen, oNop, oPush, oRZ, a1, a2, b1, b2, c1, c3, hx', List.getElem?_cons_zero, List.getElem?_cons_succ, List.set_cons_zero, List.set_cons_succ, List.drop_succ_cons, List.drop_zero, List.take_succ_cons, List.take_zero, List.length_cons, List.length_nil, List.reverse_cons, List.reverse_nil, List.nil_append, List.cons_append, Option.toList_some, Option.toList_none, va_rf_s, true_and, and_true, true_implies, false_implies, not_true_eq_false, not_false_eq_true, Nat.reduceAdd, Nat.reduceLeDiff, Nat.le_add_left, Nat.zero_le, Nat.le_refl, znew, true_or, or_true, b01_t, b01_f, b01_ok, bool_ft, vp_b01, vp_b0, vp_b1, b01_eq0, b01_eq1, implies_true, nI_add, nI_clamp, zi_in, zi_le_t, zi_le_f, zi_lt_t, zi_lt_f, zi_eq_t, zi_eq_f, nI_leI, nI_ltI, nI_eq, z_in, pk_mul, zu_same, zu_rw, zu_ix, zi_ne0, zi_sub, zi_m1, Nat.add_sub_cancel, Nat.reduceMul, Nat.reduceSub]
          refine hVQ _ _ ⟨?_, rfl⟩
          rw [decide_eq_false (fun q => hx (by rw [q]))]; rfl
    have hl' : (nI w.length = nI u.length) = True := eq_true (by rw [hl])
    refine sJ9_equals_0 _ _ _ _ _ ?_
    simp (disch := omega) only [oAld, oIfc, oIst, oLen, oPush, oRZ, a1, a2, b1, b2, hl', List.getElem?_cons_zero, List.getElem?_cons_succ, List.set_cons_zero, List.set_cons_succ, List.drop_succ_cons, List.drop_zero, List.take_succ_cons, List.take_zero, List.length_cons, List.length_nil, List.reverse_cons, List.reverse_nil, List.nil_append, List.cons_append, Option.toList_some, Option.toList_none, va_rf_s, true_and, and_true, true_implies, false_implies, not_true_eq_false, not_false_eq_true, Nat.reduceAdd, Nat.reduceLeDiff, Nat.le_add_left, Nat.zero_le, Nat.le_refl, znew, true_or, or_true, b01_t, b01_f, b01_ok, bool_ft, vp_b01, vp_b0, vp_b1, b01_eq0, b01_eq1, implies_true, nI_add, nI_clamp, zi_in, zi_le_t, zi_le_f, zi_lt_t, zi_lt_f, zi_eq_t, zi_eq_f, nI_leI, nI_ltI, nI_eq, z_in, pk_mul, zu_same, zu_rw, zu_ix, zi_ne0, zi_sub, zi_m1, Nat.add_sub_cancel, Nat.reduceMul, Nat.reduceSub]
    exact loop 0 (by omega) (fun j hj => absurd hj (by omega))
  · have hl' : (nI w.length = nI u.length) = False := eq_false (fun q => hl (by rw [nI_eq (by omega) (by omega)] at q; exact q))
    refine sJ9_equals_0 _ _ _ _ _ ?_
    simp (disch := omega) only [oAld, oIfc, oIst, oLen, oPush, oRZ, a1, a2, b1, b2, hl', List.getElem?_cons_zero, List.getElem?_cons_succ, List.set_cons_zero, List.set_cons_succ, List.drop_succ_cons, List.drop_zero, List.take_succ_cons, List.take_zero, List.length_cons, List.length_nil, List.reverse_cons, List.reverse_nil, List.nil_append, List.cons_append, Option.toList_some, Option.toList_none, va_rf_s, true_and, and_true, true_implies, false_implies, not_true_eq_false, not_false_eq_true, Nat.reduceAdd, Nat.reduceLeDiff, Nat.le_add_left, Nat.zero_le, Nat.le_refl, znew, true_or, or_true, b01_t, b01_f, b01_ok, bool_ft, vp_b01, vp_b0, vp_b1, b01_eq0, b01_eq1, implies_true, nI_add, nI_clamp, zi_in, zi_le_t, zi_le_f, zi_lt_t, zi_lt_f, zi_eq_t, zi_eq_f, nI_leI, nI_ltI, nI_eq, z_in, pk_mul, zu_same, zu_rw, zu_ix, zi_ne0, zi_sub, zi_m1, Nat.add_sub_cancel, Nat.reduceMul, Nat.reduceSub]
    refine hVQ _ _ ⟨?_, rfl⟩
    rw [decide_eq_false (fun q => hl (by rw [q]))]; rfl
theorem isSt.uq {h : Nat → Option zSh} {S : Nat → Nat → Int32} {ok ok' : Nat → Prop} {sa : Nat} {w u : List Nat} (h1 : isSt h S ok sa w) (h2 : isSt h S ok' sa u) : w = u := by
  obtain ⟨-, -, -, va, -, a1, a2, a3, a4, a5⟩ := h1
  obtain ⟨-, -, -, vb, -, b1, b2, b3, b4, b5⟩ := h2
  cases a1.symm.trans b1
  have hl : w.length = u.length := a3.symm.trans b3
  refine List.ext_getElem? (fun j => ?_)
  by_cases hj : j < w.length
  · obtain ⟨c1, c2⟩ := a5 j hj
    obtain ⟨c3, c4⟩ := b5 j (by omega)
    have q := c1.symm.trans c3
    rw [nI_eq (by omega) (by omega)] at q
    have this : w.getD j 0 = u.getD j 0 := by omega
    rw [List.getD_eq_getElem?_getD, List.getD_eq_getElem?_getD, List.getElem?_eq_getElem hj, List.getElem?_eq_getElem (by omega)] at this
    rw [List.getElem?_eq_getElem hj, List.getElem?_eq_getElem (by omega)]
    exact congrArg some this
  · rw [List.getElem?_eq_none (by omega), List.getElem?_eq_none (by omega)]
theorem zJ8_equals {ok ok' : Nat → Prop} {sa sb : Nat} {w u : List Nat} (hc : csZ E) (ha : isSt h S ok sa w) (hb : isSt h S ok' sb u) : zM l E 1 YJ8_equals [.ref sa, .ref sb] (z, h, S, L) 0 0 (fun r X' => r = some (.int (b01 (decide (w = u)))) ∧ X' = (z, h, S, L)) (fun _ _ => False) := by
  obtain ⟨-, a1, a2, va, -, a3, a4⟩ := id ha
  obtain ⟨-, b1, b2, vb, -, b3, b4⟩ := id hb
  refine zM.go rfl rfl (Nat.le_of_ble_eq_true rfl) (ls := [some (.ref sa), some (.ref sb), none]) rfl ?_
  intro V hVl hVE hVd hVc hVs hVQ hVX
  rw [← hVE] at hc
  by_cases he : sa = sb
  · have he' : (sa = sb) = True := eq_true he
    refine sJ8_equals_0 (v19 := .int (nI 1)) _ _ _ _ _ ?_
    simp (disch := omega) only [oAld, oAst, oCS, oCast, oGI, oGR, oGetS, oIf, oIfA, oIfc, oInst, oPush, oRZ, hc, he', a1, a2, a3, b1, b2, b3, List.getElem?_cons_zero, List.getElem?_cons_succ, List.set_cons_zero, List.set_cons_succ, List.drop_succ_cons, List.drop_zero, List.take_succ_cons, List.take_zero, List.length_cons, List.length_nil, List.reverse_cons, List.reverse_nil, List.nil_append, List.cons_append, Option.toList_some, Option.toList_none, va_rf_s, true_and, and_true, true_implies, false_implies, not_true_eq_false, not_false_eq_true, Nat.reduceAdd, Nat.reduceLeDiff, Nat.le_add_left, Nat.zero_le, Nat.le_refl, znew, true_or, or_true, b01_t, b01_f, b01_ok, bool_ft, vp_b01, vp_b0, vp_b1, b01_eq0, b01_eq1, implies_true, nI_add, nI_clamp, zi_in, zi_le_t, zi_le_f, zi_lt_t, zi_lt_f, zi_eq_t, zi_eq_f, nI_leI, nI_ltI, nI_eq, z_in, pk_mul, zu_same, zu_rw, zu_ix, zi_ne0, zi_sub, zi_m1, Nat.add_sub_cancel, Nat.reduceMul, Nat.reduceSub]
    refine hVQ _ _ ⟨?_, rfl⟩
    subst he
    rw [decide_eq_true (ha.uq hb)]; rfl
  · have he' : (sa = sb) = False := eq_false he
    refine sJ8_equals_0 (v19 := .int (nI 1)) _ _ _ _ _ ?_
    simp (disch := omega) only [oAld, oAst, oCS, oCast, oGI, oGR, oGetS, oIf, oIfA, oIfc, oInst, oPush, oRZ, hc, he', a1, a2, a3, b1, b2, b3, List.getElem?_cons_zero, List.getElem?_cons_succ, List.set_cons_zero, List.set_cons_succ, List.drop_succ_cons, List.drop_zero, List.take_succ_cons, List.take_zero, List.length_cons, List.length_nil, List.reverse_cons, List.reverse_nil, List.nil_append, List.cons_append, Option.toList_some, Option.toList_none, va_rf_s, true_and, and_true, true_implies, false_implies, not_true_eq_false, not_false_eq_true, Nat.reduceAdd, Nat.reduceLeDiff, Nat.le_add_left, Nat.zero_le, Nat.le_refl, znew, true_or, or_true, b01_t, b01_f, b01_ok, bool_ft, vp_b01, vp_b0, vp_b1, b01_eq0, b01_eq1, implies_true, nI_add, nI_clamp, zi_in, zi_le_t, zi_le_f, zi_lt_t, zi_lt_f, zi_eq_t, zi_eq_f, nI_leI, nI_ltI, nI_eq, z_in, pk_mul, zu_same, zu_rw, zu_ix, zi_ne0, zi_sub, zi_m1, Nat.add_sub_cancel, Nat.reduceMul, Nat.reduceSub]
    refine zC.of0 (zJ9_equals (ok := ok) a4 b4) (by omega) (Nat.zero_le _) (Nat.zero_le _) ?_
    rintro _ _ ⟨rfl, rfl⟩
    cases hd : decide (w = u) with
    | true =>
      refine sJ8_equals_47 _ _ _ _ _ ?_
      simp (disch := omega) only [oIf, oNop, oPush, oRZ, List.getElem?_cons_zero, List.getElem?_cons_succ, List.set_cons_zero, List.set_cons_succ, List.drop_succ_cons, List.drop_zero, List.take_succ_cons, List.take_zero, List.length_cons, List.length_nil, List.reverse_cons, List.reverse_nil, List.nil_append, List.cons_append, Option.toList_some, Option.toList_none, va_rf_s, true_and, and_true, true_implies, false_implies, not_true_eq_false, not_false_eq_true, Nat.reduceAdd, Nat.reduceLeDiff, Nat.le_add_left, Nat.zero_le, Nat.le_refl, znew, true_or, or_true, b01_t, b01_f, b01_ok, bool_ft, vp_b01, vp_b0, vp_b1, b01_eq0, b01_eq1, implies_true, nI_add, nI_clamp, zi_in, zi_le_t, zi_le_f, zi_lt_t, zi_lt_f, zi_eq_t, zi_eq_f, nI_leI, nI_ltI, nI_eq, z_in, pk_mul, zu_same, zu_rw, zu_ix, zi_ne0, zi_sub, zi_m1, Nat.add_sub_cancel, Nat.reduceMul, Nat.reduceSub]
      exact hVQ _ _ ⟨by rw [hd]; rfl, rfl⟩
    | false =>
      refine sJ8_equals_47 _ _ _ _ _ ?_
      simp (disch := omega) only [oIf, oNop, oPush, oRZ, List.getElem?_cons_zero, List.getElem?_cons_succ, List.set_cons_zero, List.set_cons_succ, List.drop_succ_cons, List.drop_zero, List.take_succ_cons, List.take_zero, List.length_cons, List.length_nil, List.reverse_cons, List.reverse_nil, List.nil_append, List.cons_append, Option.toList_some, Option.toList_none, va_rf_s, true_and, and_true, true_implies, false_implies, not_true_eq_false, not_false_eq_true, Nat.reduceAdd, Nat.reduceLeDiff, Nat.le_add_left, Nat.zero_le, Nat.le_refl, znew, true_or, or_true, b01_t, b01_f, b01_ok, bool_ft, vp_b01, vp_b0, vp_b1, b01_eq0, b01_eq1, implies_true, nI_add, nI_clamp, zi_in, zi_le_t, zi_le_f, zi_lt_t, zi_lt_f, zi_eq_t, zi_eq_f, nI_leI, nI_ltI, nI_eq, z_in, pk_mul, zu_same, zu_rw, zu_ix, zi_ne0, zi_sub, zi_m1, Nat.add_sub_cancel, Nat.reduceMul, Nat.reduceSub]
      exact hVQ _ _ ⟨by rw [hd]; rfl, rfl⟩
end EA
