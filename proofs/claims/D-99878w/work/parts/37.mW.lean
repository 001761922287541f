/-! reading: names -/
def nm0 : List Nat × Nat := ([], 0)
def mNm (b : Nat) (S : Nat → Nat → Int32) (L : Nat → Nat → Int64) (N : List (List Nat × Nat)) : Prop := S b 20 = nI N.length ∧ N.length ≤ 18 ∧ ∀ k, k < N.length → L (b + 8) k = lN (hsL (N.getD k nm0).1) ∧ S (b + 9) k = nI (N.getD k nm0).2 ∧ (isNm (N.getD k nm0).1 ∧ hsL (N.getD k nm0).1 < 2 ^ 40) ∧ (N.getD k nm0).2 ≤ 10
theorem mNm.fr {b : Nat} {S S' : Nat → Nat → Int32} {L : Nat → Nat → Int64} {N : List (List Nat × Nat)} {D F : List Nat} (h : mNm b S L N) (hf : zfr D F b S S') (h9 : D.all (fun x => !(x == 9)) = true) (h20 : F.all (fun x => !(x == 20)) = true) : mNm b S' L N := by
  unfold mNm
  rw [hf.at h9 rfl, hf.f h20]
  exact h
def hasN (N : List (List Nat × Nat)) (w : List Nat) : Nat → Bool
  | 0 => false
  | k + 1 => hasN N w k || decide ((N.getD k nm0).1 = w)
def ixK (N : List (List Nat × Nat)) (w : List Nat) : Nat → Option Nat
  | 0 => none
  | k + 1 => match ixK N w k with
    | some c => some c
    | none => if (N.getD k nm0).1 = w ∧ (N.getD k nm0).2 < 10 then some (N.getD k nm0).2 else none
theorem ixK_mono {N : List (List Nat × Nat)} {w : List Nat} {k c : Nat} (h : ixK N w k = some c) : ∀ n, k ≤ n → ixK N w n = some c := by
  intro n
  induction n with
  | zero => intro hk; obtain rfl : k = 0 := by omega
            exact h
  | succ n ih =>
    intro hk
    by_cases he : k = n + 1
    · rw [← he]; exact h
    · rw [ixK, ih (by omega)]
theorem pTell_idem (n tok : Nat) (w : Nat × Nat) : pTell n tok (pTell n tok w) = pTell n tok w := by
  by_cases h : w.1 ≠ 0 ∧ (w.2 < tok ∨ (tok = w.2 ∧ w.1 ≤ n))
  · have e : pTell n tok w = w := by rw [pTell, if_pos h]
    rw [e, e]
  · have e : pTell n tok w = (n, tok) := by rw [pTell, if_neg h]
    rw [e, pTell]
    split <;> rfl
def pName (A : List zTk) (has : List Nat → Bool) (q : zCu) : zPR zCu := pB (pMust A 1 q) (fun q' => .ok (q'.1, if has (tkN A q.1) = true then pTell 3 q.1 q'.2 else q'.2))
def pKn (A : List zTk) (kn : List Nat → Option Nat) (q : zCu) : zPR (Option Nat × zCu) := pB (pMust A 1 q) (fun q' => match kn (tkN A q.1) with
  | some c => .ok (some c, q')
  | none => .ok (none, q'.1, pTell 4 q.1 q'.2))
section MW
variable {l : Launch} {E : zE} {b z : Nat} {h : Nat → Option zSh} {S : Nat → Nat → Int32} {L : Nat → Nat → Int64} {A : List zTk} {st : zPR zCu} {N : List (List Nat × Nat)}
theorem mC.at_ (hC : mC b S L A st) : ∃ a, S b 11 = nI a ∧ a ≤ 400 ∧ ∀ q, st = .ok q → a = q.1 := by
  cases st with
  | error e => obtain ⟨-, -, -, -, -, a, h1, h2⟩ := hC; exact ⟨a, h1, h2, fun q e => by cases e⟩
  | ok q => obtain ⟨-, -, h1, h2, -⟩ := hC; exact ⟨q.1, h1, h2, fun q' e => by cases e; rfl⟩
theorem mC.bad {e : zFt} (hC : mC b S L A (.error e)) : ∃ n, S b 13 = nI n ∧ 0 < n ∧ n ≤ 5 := ⟨_, hC.2.1, hC.2.2.1, hC.2.2.2.1⟩
theorem mC.good {q : zCu} (hC : mC b S L A (.ok q)) : S b 13 = nI 0 := hC.2.1
theorem nmEq {u v : List Nat} (hu : isNm u) (hv : isNm v) (hul : hsL u < 2 ^ 40) (hvl : hsL v < 2 ^ 40) : (lN (hsL u) = lN (hsL v)) = (u = v) := by
  rw [pk_lEQ (by omega) (by omega)]
  exact propext ⟨fun q => hsL_inj hu hv q, fun q => by rw [q]⟩
theorem pMust_at {k : Nat} {q q1 : zCu} (he : pMust A k q = .ok q1) : q1 = (q.1 + 1, q.2) ∧ tkK A q.1 = k ∧ q.1 < 400 ∨ 400 < q.1 := by
  unfold pMust at he
  split at he
  · unfold pGo at he
    split at he
    · cases he
    · rename_i hk h4
      cases he
      by_cases h5 : q.1 < 400
      · exact Or.inl ⟨rfl, hk, h5⟩
      · exact Or.inr (by omega)
  · cases he
theorem zX10_named (hM : isM h b) (hA : tkW A) (hC : mC b S L A st) (hN : mNm b S L N) {has : List Nat → Bool} (hh : ∀ w, hasN N w N.length = has w) :
    zM l E 3 YX10_named [.ref b] (z, h, S, L) 0 0 (fun r X => ∃ S' t', r = some (.int (nI t')) ∧ t' ≤ 400 ∧ (∀ q, st = .ok q → t' = q.1) ∧ X = (z, h, S', L) ∧ zfr [] [11, 13, 14, 15, 16] b S S' ∧ mC b S' L A (pB st (pName A has))) (fun _ _ => False) := by
  obtain ⟨a, h11, ha4, haq⟩ := hC.at_
  refine zM.go rfl rfl (Nat.le_of_ble_eq_true rfl) (ls := [some (.ref b), none, none]) rfl ?_
  intro V hVl hVE hVd hVc hVs hVQ hVX
  refine sX10_named_0 _ _ _ _ _ ?_
  simp (disch := omega) only [oAld, oCV, oGI, oIst, oPush, hM.1, h11, List.getElem?_cons_zero, List.getElem?_cons_succ, List.set_cons_zero, List.set_cons_succ, List.drop_succ_cons, List.drop_zero, List.take_succ_cons, List.take_zero, List.length_cons, List.length_nil, List.reverse_cons, List.reverse_nil, List.nil_append, List.cons_append, Option.toList_some, Option.toList_none, va_rf_s, true_and, and_true, true_implies, false_implies, not_true_eq_false, not_false_eq_true, Nat.reduceAdd, Nat.reduceLeDiff, Nat.le_add_left, Nat.zero_le, Nat.le_refl, znew, true_or, or_true, b01_t, b01_f, b01_ok, bool_ft, vp_b01, vp_b0, vp_b1, b01_eq0, b01_eq1, implies_true, nI_add, nI_clamp, zi_in, zi_le_t, zi_le_f, zi_lt_t, zi_lt_f, zi_eq_t, zi_eq_f, nI_leI, nI_ltI, nI_eq, z_in, pk_mul, zu_same, zu_rw, zu_ix, zi_ne0, zi_sub, zi_m1, Nat.add_sub_cancel, Nat.reduceMul, Nat.reduceSub]
  refine zC.of0 (zX10_must hM hA hC (by omega) (by omega)) (by omega) (Nat.zero_le _) (Nat.zero_le _) ?_
  rintro _ _ ⟨rfl, S1, rfl, hf1, hC1⟩
  have hN1 := hN.fr hf1 rfl rfl
  have h20 := hN1.1
  have hn18 := hN1.2.1
  refine sX10_named_10 _ _ _ _ _ ?_
  simp (disch := omega) only [oIst, oPush, List.getElem?_cons_zero, List.getElem?_cons_succ, List.set_cons_zero, List.set_cons_succ, List.drop_succ_cons, List.drop_zero, List.take_succ_cons, List.take_zero, List.length_cons, List.length_nil, List.reverse_cons, List.reverse_nil, List.nil_append, List.cons_append, Option.toList_some, Option.toList_none, va_rf_s, true_and, and_true, true_implies, false_implies, not_true_eq_false, not_false_eq_true, Nat.reduceAdd, Nat.reduceLeDiff, Nat.le_add_left, Nat.zero_le, Nat.le_refl, znew, true_or, or_true, b01_t, b01_f, b01_ok, bool_ft, vp_b01, vp_b0, vp_b1, b01_eq0, b01_eq1, implies_true, nI_add, nI_clamp, zi_in, zi_le_t, zi_le_f, zi_lt_t, zi_lt_f, zi_eq_t, zi_eq_f, nI_leI, nI_ltI, nI_eq, z_in, pk_mul, zu_same, zu_rw, zu_ix, zi_ne0, zi_sub, zi_m1, Nat.add_sub_cancel, Nat.reduceMul, Nat.reduceSub]
  have e0 : pB st (pName A has) = pB (pB st (pMust A 1)) (fun q' => .ok (q'.1, if has (tkN A a) = true then pTell 3 a q'.2 else q'.2)) := by
    cases st with
    | error e => rfl
    | ok q => rw [pB_ok, pB_ok, pName, haq q rfl]
  rw [e0] at hVQ
  have hf1' : zfr [] [11, 13, 14, 15, 16] b S S1 := hf1.tr zfr.rf rfl rfl (D' := []) (F' := []) rfl rfl
  cases hst : pB st (pMust A 1) with
  | error e =>
    rw [hst] at hC1 hVQ
    obtain ⟨n, h13, hn, hn5⟩ := hC1.bad
    have fin : V.2.2.2.2.2.1 (some (.int (nI a))) (z, h, S1, L) := hVQ _ _ ⟨S1, a, rfl, ha4, haq, rfl, hf1', hC1⟩
    by_cases hn0 : N.length = 0
    · refine sX10_named_12 _ _ _ _ _ ?_
      simp (disch := omega) only [oAld, oCV, oGI, oGR, oIf, oIfc, oIld, oLald, oLcmp, oPush, oRI, hM.1, hM.r21, hM.t21, hM.n21, hM.r8, hM.t8, hM.n8, h20, List.getElem?_cons_zero, List.getElem?_cons_succ, List.set_cons_zero, List.set_cons_succ, List.drop_succ_cons, List.drop_zero, List.take_succ_cons, List.take_zero, List.length_cons, List.length_nil, List.reverse_cons, List.reverse_nil, List.nil_append, List.cons_append, Option.toList_some, Option.toList_none, va_rf_s, true_and, and_true, true_implies, false_implies, not_true_eq_false, not_false_eq_true, Nat.reduceAdd, Nat.reduceLeDiff, Nat.le_add_left, Nat.zero_le, Nat.le_refl, znew, true_or, or_true, b01_t, b01_f, b01_ok, bool_ft, vp_b01, vp_b0, vp_b1, b01_eq0, b01_eq1, implies_true, nI_add, nI_clamp, zi_in, zi_le_t, zi_le_f, zi_lt_t, zi_lt_f, zi_eq_t, zi_eq_f, nI_leI, nI_ltI, nI_eq, z_in, pk_mul, zu_same, zu_rw, zu_ix, zi_ne0, zi_sub, zi_m1, Nat.add_sub_cancel, Nat.reduceMul, Nat.reduceSub]
      exact fin
    · refine sX10_named_12 _ _ _ _ _ ?_
      simp (disch := omega) only [oAld, oCV, oGI, oGR, oIf, oIfc, oIld, oLald, oLcmp, oPush, oRI, hM.1, hM.r21, hM.t21, hM.n21, hM.r8, hM.t8, hM.n8, h20, h13, List.getElem?_cons_zero, List.getElem?_cons_succ, List.set_cons_zero, List.set_cons_succ, List.drop_succ_cons, List.drop_zero, List.take_succ_cons, List.take_zero, List.length_cons, List.length_nil, List.reverse_cons, List.reverse_nil, List.nil_append, List.cons_append, Option.toList_some, Option.toList_none, va_rf_s, true_and, and_true, true_implies, false_implies, not_true_eq_false, not_false_eq_true, Nat.reduceAdd, Nat.reduceLeDiff, Nat.le_add_left, Nat.zero_le, Nat.le_refl, znew, true_or, or_true, b01_t, b01_f, b01_ok, bool_ft, vp_b01, vp_b0, vp_b1, b01_eq0, b01_eq1, implies_true, nI_add, nI_clamp, zi_in, zi_le_t, zi_le_f, zi_lt_t, zi_lt_f, zi_eq_t, zi_eq_f, nI_leI, nI_ltI, nI_eq, z_in, pk_mul, zu_same, zu_rw, zu_ix, zi_ne0, zi_sub, zi_m1, Nat.add_sub_cancel, Nat.reduceMul, Nat.reduceSub]
      exact fin
  | ok q1 =>
    rw [hst, pB_ok] at hVQ
    rw [hst] at hC1
    obtain ⟨q, rfl⟩ : ∃ q, st = .ok q := by
      cases st with
      | error e => cases hst
      | ok q => exact ⟨q, rfl⟩
    obtain rfl : a = q.1 := haq q rfl
    have hal : q.1 < A.length := hC.2.2.2.2.1
    obtain ⟨-, -, -, e6⟩ := hC.tok hal ha4
    have ht := (hA.2.2 q.1).2.2.2
    have loop : ∀ k, k ≤ N.length → ∀ S2, zfr [] [15, 16] b S1 S2 → mC b S2 L A (.ok (q1.1, if hasN N (tkN A q.1) k = true then pTell 3 q.1 q1.2 else q1.2)) → zW V YX10_named 12 [some (.ref b), some (.int (nI q.1)), some (.int (nI k))] [] (z, h, S2, L) 0 0 := by
      refine z_down ?_ (fun k hk ih => ?_)
      · intro S2 hf2 hC2
        have hN2 := hN1.fr hf2 rfl rfl
        have h20 := hN2.1
        refine sX10_named_12 _ _ _ _ _ ?_
        simp (disch := omega) only [oAld, oCV, oGI, oGR, oIf, oIfc, oIld, oLald, oLcmp, oPush, oRI, hM.1, hM.r21, hM.t21, hM.n21, hM.r8, hM.t8, hM.n8, h20, List.getElem?_cons_zero, List.getElem?_cons_succ, List.set_cons_zero, List.set_cons_succ, List.drop_succ_cons, List.drop_zero, List.take_succ_cons, List.take_zero, List.length_cons, List.length_nil, List.reverse_cons, List.reverse_nil, List.nil_append, List.cons_append, Option.toList_some, Option.toList_none, va_rf_s, true_and, and_true, true_implies, false_implies, not_true_eq_false, not_false_eq_true, Nat.reduceAdd, Nat.reduceLeDiff, Nat.le_add_left, Nat.zero_le, Nat.le_refl, znew, true_or, or_true, b01_t, b01_f, b01_ok, bool_ft, vp_b01, vp_b0, vp_b1, b01_eq0, b01_eq1, implies_true, nI_add, nI_clamp, zi_in, zi_le_t, zi_le_f, zi_lt_t, zi_lt_f, zi_eq_t, zi_eq_f, nI_leI, nI_ltI, nI_eq, z_in, pk_mul, zu_same, zu_rw, zu_ix, zi_ne0, zi_sub, zi_m1, Nat.add_sub_cancel, Nat.reduceMul, Nat.reduceSub]
        refine hVQ _ _ ⟨S2, q.1, rfl, ha4, haq, rfl, hf1'.tr hf2 rfl rfl rfl rfl, ?_⟩
        rw [← hh]; exact hC2
      · intro S2 hf2 hC2
        have hN2 := hN1.fr hf2 rfl rfl
        have h20 := hN2.1
        have h13 := hC2.good
        obtain ⟨e8, -, ⟨hnm, hnl⟩, -⟩ := hN2.2.2 k hk
        have heq := nmEq hnm ht.1 hnl ht.2
        have hkk : hasN N (tkN A q.1) (k + 1) = (hasN N (tkN A q.1) k || decide ((N.getD k nm0).1 = tkN A q.1)) := rfl
        refine sX10_named_12 _ _ _ _ _ ?_
        simp (disch := omega) only [oAld, oCV, oGI, oGR, oIf, oIfc, oIld, oLald, oLcmp, oPush, oRI, hM.1, hM.r21, hM.t21, hM.n21, hM.r8, hM.t8, hM.n8, h20, h13, e8, e6, lg_cmp0, heq, List.getElem?_cons_zero, List.getElem?_cons_succ, List.set_cons_zero, List.set_cons_succ, List.drop_succ_cons, List.drop_zero, List.take_succ_cons, List.take_zero, List.length_cons, List.length_nil, List.reverse_cons, List.reverse_nil, List.nil_append, List.cons_append, Option.toList_some, Option.toList_none, va_rf_s, true_and, and_true, true_implies, false_implies, not_true_eq_false, not_false_eq_true, Nat.reduceAdd, Nat.reduceLeDiff, Nat.le_add_left, Nat.zero_le, Nat.le_refl, znew, true_or, or_true, b01_t, b01_f, b01_ok, bool_ft, vp_b01, vp_b0, vp_b1, b01_eq0, b01_eq1, implies_true, nI_add, nI_clamp, zi_in, zi_le_t, zi_le_f, zi_lt_t, zi_lt_f, zi_eq_t, zi_eq_f, nI_leI, nI_ltI, nI_eq, z_in, pk_mul, zu_same, zu_rw, zu_ix, zi_ne0, zi_sub, zi_m1, Nat.add_sub_cancel, Nat.reduceMul, Nat.reduceSub]
        refine ⟨fun hq => ?_, fun hq => ?_⟩
        · refine zC.of0 (zX10_wrong hM hA hC2 (by omega) (by omega) ha4 (fun _ _ => hal)) (by omega) (Nat.zero_le _) (Nat.zero_le _) ?_
          rintro _ _ ⟨rfl, S3, rfl, hf3, hC3⟩
          refine sX10_named_49 _ _ _ _ _ ?_
          simp (disch := omega) only [oInc, oNop, List.getElem?_cons_zero, List.getElem?_cons_succ, List.set_cons_zero, List.set_cons_succ, List.drop_succ_cons, List.drop_zero, List.take_succ_cons, List.take_zero, List.length_cons, List.length_nil, List.reverse_cons, List.reverse_nil, List.nil_append, List.cons_append, Option.toList_some, Option.toList_none, va_rf_s, true_and, and_true, true_implies, false_implies, not_true_eq_false, not_false_eq_true, Nat.reduceAdd, Nat.reduceLeDiff, Nat.le_add_left, Nat.zero_le, Nat.le_refl, znew, true_or, or_true, b01_t, b01_f, b01_ok, bool_ft, vp_b01, vp_b0, vp_b1, b01_eq0, b01_eq1, implies_true, nI_add, nI_clamp, zi_in, zi_le_t, zi_le_f, zi_lt_t, zi_lt_f, zi_eq_t, zi_eq_f, nI_leI, nI_ltI, nI_eq, z_in, pk_mul, zu_same, zu_rw, zu_ix, zi_ne0, zi_sub, zi_m1, Nat.add_sub_cancel, Nat.reduceMul, Nat.reduceSub]
          refine ih S3 (hf2.tr hf3 rfl rfl rfl rfl) ?_
          have e9 : hasN N (tkN A q.1) (k + 1) = true := by rw [hkk, decide_eq_true hq, Bool.or_true]
          rw [e9, if_pos rfl]
          have e10 : pTl 3 q.1 (.ok (q1.1, if hasN N (tkN A q.1) k = true then pTell 3 q.1 q1.2 else q1.2)) = .ok (q1.1, pTell 3 q.1 q1.2) := by
            rw [pTl, pB_ok]
            show Except.ok (q1.1, pTell 3 q.1 (if hasN N (tkN A q.1) k = true then pTell 3 q.1 q1.2 else q1.2)) = _
            split
            · rw [pTell_idem]
            · rfl
          rw [e10] at hC3
          exact hC3
        · refine sX10_named_49 _ _ _ _ _ ?_
          simp (disch := omega) only [oInc, oNop, List.getElem?_cons_zero, List.getElem?_cons_succ, List.set_cons_zero, List.set_cons_succ, List.drop_succ_cons, List.drop_zero, List.take_succ_cons, List.take_zero, List.length_cons, List.length_nil, List.reverse_cons, List.reverse_nil, List.nil_append, List.cons_append, Option.toList_some, Option.toList_none, va_rf_s, true_and, and_true, true_implies, false_implies, not_true_eq_false, not_false_eq_true, Nat.reduceAdd, Nat.reduceLeDiff, Nat.le_add_left, Nat.zero_le, Nat.le_refl, znew, true_or, or_true, b01_t, b01_f, b01_ok, bool_ft, vp_b01, vp_b0, vp_b1, b01_eq0, b01_eq1, implies_true, nI_add, nI_clamp, zi_in, zi_le_t, zi_le_f, zi_lt_t, zi_lt_f, zi_eq_t, zi_eq_f, nI_leI, nI_ltI, nI_eq, z_in, pk_mul, zu_same, zu_rw, zu_ix, zi_ne0, zi_sub, zi_m1, Nat.add_sub_cancel, Nat.reduceMul, Nat.reduceSub]
          refine ih S2 hf2 ?_
          have e9 : hasN N (tkN A q.1) (k + 1) = hasN N (tkN A q.1) k := by rw [hkk, decide_eq_false hq, Bool.or_false]
          rw [e9]; exact hC2
    exact loop 0 (by omega) S1 zfr.rf (by rw [hasN, if_neg (by decide)]; exact hC1)
theorem zX10_known (hM : isM h b) (hA : tkW A) (hC : mC b S L A st) (hN : mNm b S L N) {kn : List Nat → Option Nat} (hh : ∀ w, ixK N w N.length = kn w) :
    zM l E 3 YX10_known [.ref b] (z, h, S, L) 0 0 (fun r X => ∃ S' v, r = some (.int v) ∧ X = (z, h, S', L) ∧ zfr [] [11, 13, 14, 15, 16] b S S' ∧ mC b S' L A (pV (pB st (pKn A kn))) ∧ ∀ c q, pB st (pKn A kn) = .ok (c, q) → v = oM c) (fun _ _ => False) := by
  obtain ⟨a, h11, ha4, haq⟩ := hC.at_
  refine zM.go rfl rfl (Nat.le_of_ble_eq_true rfl) (ls := [some (.ref b), none, none]) rfl ?_
  intro V hVl hVE hVd hVc hVs hVQ hVX
  refine sX10_known_0 _ _ _ _ _ ?_
  simp (disch := omega) only [oAld, oCV, oGI, oIst, oPush, hM.1, h11, List.getElem?_cons_zero, List.getElem?_cons_succ, List.set_cons_zero, List.set_cons_succ, List.drop_succ_cons, List.drop_zero, List.take_succ_cons, List.take_zero, List.length_cons, List.length_nil, List.reverse_cons, List.reverse_nil, List.nil_append, List.cons_append, Option.toList_some, Option.toList_none, va_rf_s, true_and, and_true, true_implies, false_implies, not_true_eq_false, not_false_eq_true, Nat.reduceAdd, Nat.reduceLeDiff, Nat.le_add_left, Nat.zero_le, Nat.le_refl, znew, true_or, or_true, b01_t, b01_f, b01_ok, bool_ft, vp_b01, vp_b0, vp_b1, b01_eq0, b01_eq1, implies_true, nI_add, nI_clamp, zi_in, zi_le_t, zi_le_f, zi_lt_t, zi_lt_f, zi_eq_t, zi_eq_f, nI_leI, nI_ltI, nI_eq, z_in, pk_mul, zu_same, zu_rw, zu_ix, zi_ne0, zi_sub, zi_m1, Nat.add_sub_cancel, Nat.reduceMul, Nat.reduceSub]
  refine zC.of0 (zX10_must hM hA hC (by omega) (by omega)) (by omega) (Nat.zero_le _) (Nat.zero_le _) ?_
  rintro _ _ ⟨rfl, S1, rfl, hf1, hC1⟩
  have hN1 := hN.fr hf1 rfl rfl
  have hf1' : zfr [] [11, 13, 14, 15, 16] b S S1 := hf1.tr zfr.rf rfl rfl (D' := []) (F' := []) rfl rfl
  have e0 : pB st (pKn A kn) = pB (pB st (pMust A 1)) (fun q' => match kn (tkN A a) with
      | some c => .ok (some c, q')
      | none => .ok (none, q'.1, pTell 4 a q'.2)) := by
    cases st with
    | error e => rfl
    | ok q => rw [pB_ok, pB_ok, pKn, haq q rfl]
  rw [e0] at hVQ
  cases hst : pB st (pMust A 1) with
  | error e =>
    rw [hst] at hC1 hVQ
    obtain ⟨n, h13, hn, hn5⟩ := hC1.bad
    refine sX10_known_10 _ _ _ _ _ ?_
    simp (disch := omega) only [oAld, oGI, oIf, oIst, oPush, oRI, hM.1, h13, List.getElem?_cons_zero, List.getElem?_cons_succ, List.set_cons_zero, List.set_cons_succ, List.drop_succ_cons, List.drop_zero, List.take_succ_cons, List.take_zero, List.length_cons, List.length_nil, List.reverse_cons, List.reverse_nil, List.nil_append, List.cons_append, Option.toList_some, Option.toList_none, va_rf_s, true_and, and_true, true_implies, false_implies, not_true_eq_false, not_false_eq_true, Nat.reduceAdd, Nat.reduceLeDiff, Nat.le_add_left, Nat.zero_le, Nat.le_refl, znew, true_or, or_true, b01_t, b01_f, b01_ok, bool_ft, vp_b01, vp_b0, vp_b1, b01_eq0, b01_eq1, implies_true, nI_add, nI_clamp, zi_in, zi_le_t, zi_le_f, zi_lt_t, zi_lt_f, zi_eq_t, zi_eq_f, nI_leI, nI_ltI, nI_eq, z_in, pk_mul, zu_same, zu_rw, zu_ix, zi_ne0, zi_sub, zi_m1, Nat.add_sub_cancel, Nat.reduceMul, Nat.reduceSub]
    exact hVQ _ _ ⟨S1, _, rfl, rfl, hf1', hC1, fun c q e => by cases e⟩
  | ok q1 =>
    rw [hst, pB_ok] at hVQ
    rw [hst] at hC1
    obtain ⟨q, rfl⟩ : ∃ q, st = .ok q := by
      cases st with
      | error e => cases hst
      | ok q => exact ⟨q, rfl⟩
    obtain rfl : a = q.1 := haq q rfl
    have hal : q.1 < A.length := hC.2.2.2.2.1
    obtain ⟨-, -, -, e6⟩ := hC.tok hal ha4
    have ht := (hA.2.2 q.1).2.2.2
    have h13 := hC1.good
    have h20 := hN1.1
    have hn18 := hN1.2.1
    have loop : ∀ k, k ≤ N.length → ixK N (tkN A q.1) k = none → zW V YX10_known 21 [some (.ref b), some (.int (nI q.1)), some (.int (nI k))] [] (z, h, S1, L) 0 0 := by
      refine z_down ?_ (fun k hk ih => ?_)
      · intro hno
        rw [← hh, hno] at hVQ
        refine sX10_known_21 _ _ _ _ _ ?_
        simp (disch := omega) only [oAld, oAld1, oCV, oGI, oGR, oIf, oIfc, oIld, oInc, oLald, oLcmp, oNop, oPush, oRI, hM.1, hM.r21, hM.t21, hM.n21, hM.r8, hM.t8, hM.n8, hM.r22, hM.t22, hM.n22, h20, List.getElem?_cons_zero, List.getElem?_cons_succ, List.set_cons_zero, List.set_cons_succ, List.drop_succ_cons, List.drop_zero, List.take_succ_cons, List.take_zero, List.length_cons, List.length_nil, List.reverse_cons, List.reverse_nil, List.nil_append, List.cons_append, Option.toList_some, Option.toList_none, va_rf_s, true_and, and_true, true_implies, false_implies, not_true_eq_false, not_false_eq_true, Nat.reduceAdd, Nat.reduceLeDiff, Nat.le_add_left, Nat.zero_le, Nat.le_refl, znew, true_or, or_true, b01_t, b01_f, b01_ok, bool_ft, vp_b01, vp_b0, vp_b1, b01_eq0, b01_eq1, implies_true, nI_add, nI_clamp, zi_in, zi_le_t, zi_le_f, zi_lt_t, zi_lt_f, zi_eq_t, zi_eq_f, nI_leI, nI_ltI, nI_eq, z_in, pk_mul, zu_same, zu_rw, zu_ix, zi_ne0, zi_sub, zi_m1, Nat.add_sub_cancel, Nat.reduceMul, Nat.reduceSub]
        refine zC.of0 (zX10_wrong hM hA hC1 (by omega) (by omega) ha4 (fun _ _ => hal)) (by omega) (Nat.zero_le _) (Nat.zero_le _) ?_
        rintro _ _ ⟨rfl, S3, rfl, hf3, hC3⟩
        refine sX10_known_75 _ _ _ _ _ ?_
        simp (disch := omega) only [oPush, oRI, List.getElem?_cons_zero, List.getElem?_cons_succ, List.set_cons_zero, List.set_cons_succ, List.drop_succ_cons, List.drop_zero, List.take_succ_cons, List.take_zero, List.length_cons, List.length_nil, List.reverse_cons, List.reverse_nil, List.nil_append, List.cons_append, Option.toList_some, Option.toList_none, va_rf_s, true_and, and_true, true_implies, false_implies, not_true_eq_false, not_false_eq_true, Nat.reduceAdd, Nat.reduceLeDiff, Nat.le_add_left, Nat.zero_le, Nat.le_refl, znew, true_or, or_true, b01_t, b01_f, b01_ok, bool_ft, vp_b01, vp_b0, vp_b1, b01_eq0, b01_eq1, implies_true, nI_add, nI_clamp, zi_in, zi_le_t, zi_le_f, zi_lt_t, zi_lt_f, zi_eq_t, zi_eq_f, nI_leI, nI_ltI, nI_eq, z_in, pk_mul, zu_same, zu_rw, zu_ix, zi_ne0, zi_sub, zi_m1, Nat.add_sub_cancel, Nat.reduceMul, Nat.reduceSub]
        exact hVQ _ _ ⟨S3, _, rfl, rfl, hf1'.tr hf3 rfl rfl rfl rfl, hC3, fun c q e => by cases e; rfl⟩
      · intro hno
        obtain ⟨e8, e9, ⟨hnm, hnl⟩, h10⟩ := hN1.2.2 k hk
        have heq := nmEq hnm ht.1 hnl ht.2
        have hkk : ixK N (tkN A q.1) (k + 1) = if (N.getD k nm0).1 = tkN A q.1 ∧ (N.getD k nm0).2 < 10 then some (N.getD k nm0).2 else none := by rw [ixK, hno]
        have out : ¬ ((N.getD k nm0).1 = tkN A q.1 ∧ (N.getD k nm0).2 < 10) → zW V YX10_known 21 [some (.ref b), some (.int (nI q.1)), some (.int (nI (k + 1)))] [] (z, h, S1, L) 0 0 := fun hq => ih (by rw [hkk, if_neg hq])
        by_cases hlt : (N.getD k nm0).2 < 10
        · refine sX10_known_21 _ _ _ _ _ ?_
          simp (disch := omega) only [oAld, oAld1, oCV, oGI, oGR, oIf, oIfc, oIld, oInc, oLald, oLcmp, oNop, oPush, oRI, hM.1, hM.r21, hM.t21, hM.n21, hM.r8, hM.t8, hM.n8, hM.r22, hM.t22, hM.n22, h20, e8, e9, e6, lg_cmp0, heq, List.getElem?_cons_zero, List.getElem?_cons_succ, List.set_cons_zero, List.set_cons_succ, List.drop_succ_cons, List.drop_zero, List.take_succ_cons, List.take_zero, List.length_cons, List.length_nil, List.reverse_cons, List.reverse_nil, List.nil_append, List.cons_append, Option.toList_some, Option.toList_none, va_rf_s, true_and, and_true, true_implies, false_implies, not_true_eq_false, not_false_eq_true, Nat.reduceAdd, Nat.reduceLeDiff, Nat.le_add_left, Nat.zero_le, Nat.le_refl, znew, true_or, or_true, b01_t, b01_f, b01_ok, bool_ft, vp_b01, vp_b0, vp_b1, b01_eq0, b01_eq1, implies_true, nI_add, nI_clamp, zi_in, zi_le_t, zi_le_f, zi_lt_t, zi_lt_f, zi_eq_t, zi_eq_f, nI_leI, nI_ltI, nI_eq, z_in, pk_mul, zu_same, zu_rw, zu_ix, zi_ne0, zi_sub, zi_m1, Nat.add_sub_cancel, Nat.reduceMul, Nat.reduceSub]
          refine ⟨fun hq => ?_, fun hq => out (fun q => hq q.1)⟩
          have hs := ixK_mono (show ixK N (tkN A q.1) (k + 1) = some (N.getD k nm0).2 by rw [hkk, if_pos ⟨hq, hlt⟩]) N.length (by omega)
          rw [← hh, hs] at hVQ
          exact hVQ _ _ ⟨S1, _, rfl, rfl, hf1', hC1, fun c q e => by cases e; rfl⟩
        · refine sX10_known_21 _ _ _ _ _ ?_
          simp (disch := omega) only [oAld, oAld1, oCV, oGI, oGR, oIf, oIfc, oIld, oInc, oLald, oLcmp, oNop, oPush, oRI, hM.1, hM.r21, hM.t21, hM.n21, hM.r8, hM.t8, hM.n8, hM.r22, hM.t22, hM.n22, h20, e8, e9, e6, lg_cmp0, heq, List.getElem?_cons_zero, List.getElem?_cons_succ, List.set_cons_zero, List.set_cons_succ, List.drop_succ_cons, List.drop_zero, List.take_succ_cons, List.take_zero, List.length_cons, List.length_nil, List.reverse_cons, List.reverse_nil, List.nil_append, List.cons_append, Option.toList_some, Option.toList_none, va_rf_s, true_and, and_true, true_implies, false_implies, not_true_eq_false, not_false_eq_true, Nat.reduceAdd, Nat.reduceLeDiff, Nat.le_add_left, Nat.zero_le, Nat.le_refl, znew, true_or, or_true, b01_t, b01_f, b01_ok, bool_ft, vp_b01, vp_b0, vp_b1, b01_eq0, b01_eq1, implies_true, nI_add, nI_clamp, zi_in, zi_le_t, zi_le_f, zi_lt_t, zi_lt_f, zi_eq_t, zi_eq_f, nI_leI, nI_ltI, nI_eq, z_in, pk_mul, zu_same, zu_rw, zu_ix, zi_ne0, zi_sub, zi_m1, Nat.add_sub_cancel, Nat.reduceMul, Nat.reduceSub]
          exact ⟨fun hq => out (fun q => hlt q.2), fun hq => out (fun q => hq q.1)⟩
    refine sX10_known_10 _ _ _ _ _ ?_
    simp (disch := omega) only [oAld, oGI, oIf, oIst, oPush, oRI, hM.1, h13, List.getElem?_cons_zero, List.getElem?_cons_succ, List.set_cons_zero, List.set_cons_succ, List.drop_succ_cons, List.drop_zero, List.take_succ_cons, List.take_zero, List.length_cons, List.length_nil, List.reverse_cons, List.reverse_nil, List.nil_append, List.cons_append, Option.toList_some, Option.toList_none, va_rf_s, true_and, and_true, true_implies, false_implies, not_true_eq_false, not_false_eq_true, Nat.reduceAdd, Nat.reduceLeDiff, Nat.le_add_left, Nat.zero_le, Nat.le_refl, znew, true_or, or_true, b01_t, b01_f, b01_ok, bool_ft, vp_b01, vp_b0, vp_b1, b01_eq0, b01_eq1, implies_true, nI_add, nI_clamp, zi_in, zi_le_t, zi_le_f, zi_lt_t, zi_lt_f, zi_eq_t, zi_eq_f, nI_leI, nI_ltI, nI_eq, z_in, pk_mul, zu_same, zu_rw, zu_ix, zi_ne0, zi_sub, zi_m1, Nat.add_sub_cancel, Nat.reduceMul, Nat.reduceSub]
    exact loop 0 (by omega) rfl
theorem mTK.frL {S S' : Nat → Nat → Int32} {L L' : Nat → Nat → Int64} {K : List zTk} (h : mTK b S L K) (h3 : S' (b + 3) = S (b + 3)) (h4 : S' (b + 4) = S (b + 4)) (h5 : S' (b + 5) = S (b + 5)) (h10 : S' b 10 = S b 10) (h6 : L' (b + 6) = L (b + 6)) : mTK b S' L' K := by
  unfold mTK
  rw [h3, h4, h5, h10, h6]
  exact h
theorem mC.frL {S' : Nat → Nat → Int32} {L' : Nat → Nat → Int64} {D F : List Nat} (hC : mC b S L A st) (hf : zfr D F b S S') (hD : D.all (fun x => decide (5 < x)) = true) (hF : F.all (fun x => !([10, 11, 13, 14, 15, 16].contains x)) = true) (hL : ∀ a, a ≠ b + 8 → L' a = L a) : mC b S' L' A st := by
  have hD' : ∀ x ∈ D, 5 < x := fun x hx => by simpa using List.all_eq_true.mp hD x hx
  have hF' : ∀ x ∈ F, x ∉ [10, 11, 13, 14, 15, 16] := fun x hx => by simpa using List.all_eq_true.mp hF x hx
  have e : ∀ o, o ≤ 5 → o ≠ 0 → S' (b + o) = S (b + o) := fun o h1 h2 => hf.1 (b + o) (by omega) (fun x hx => by have := hD' x hx; omega)
  have f : ∀ j, j ∈ [10, 11, 13, 14, 15, 16] → S' b j = S b j := fun j hj => hf.2 j (fun hx => hF' j hx hj)
  refine ⟨hC.1.frL (e 3 (by omega) (by omega)) (e 4 (by omega) (by omega)) (e 5 (by omega) (by omega)) (f 10 (by decide)) (hL _ (by omega)), ?_⟩
  have h2 := hC.2
  cases st with
  | error e => rw [← f 13 (by decide), ← f 14 (by decide), ← f 11 (by decide)] at h2; exact h2
  | ok q => rw [← f 13 (by decide), ← f 11 (by decide), ← f 15 (by decide), ← f 16 (by decide)] at h2; exact h2
theorem getD_snocN (v : List Nat × Nat) (i : Nat) : (N ++ [v]).getD i nm0 = if i = N.length then v else if i < N.length then N.getD i nm0 else nm0 := getD_snoc N v nm0 i
theorem zX10_endsName (hM : isM h b) (hA : tkW A) (hC : mC b S L A st) (hN : mNm b S L N) (hN18 : N.length < 18) {tok c : Nat} (ht4 : tok ≤ 400) (ht : ∀ q, st = .ok q → tok < A.length) (hc : c ≤ 10) :
    zM l E 3 YX10_endsName [.ref b, .int (nI tok), .int (nI c)] (z, h, S, L) 0 0 (fun r X => r = none ∧ ∃ S' L', X = (z, h, S', L') ∧ zfr [9] [11, 13, 14, 20] b S S' ∧ (∀ a, a ≠ b + 8 → L' a = L a) ∧ mC b S' L' A (pB st (pMust A 4)) ∧ ∀ q, pB st (pMust A 4) = .ok q → mNm b S' L' (N ++ [(tkN A tok, c)])) (fun _ _ => False) := by
  refine zM.go rfl rfl (Nat.le_of_ble_eq_true rfl) (ls := [some (.ref b), some (.int (nI tok)), some (.int (nI c))]) rfl ?_
  intro V hVl hVE hVd hVc hVs hVQ hVX
  refine sX10_endsName_0 _ _ _ _ _ ?_
  simp (disch := omega) only [oAld, oCV, oPush, hM.1, List.getElem?_cons_zero, List.getElem?_cons_succ, List.set_cons_zero, List.set_cons_succ, List.drop_succ_cons, List.drop_zero, List.take_succ_cons, List.take_zero, List.length_cons, List.length_nil, List.reverse_cons, List.reverse_nil, List.nil_append, List.cons_append, Option.toList_some, Option.toList_none, va_rf_s, true_and, and_true, true_implies, false_implies, not_true_eq_false, not_false_eq_true, Nat.reduceAdd, Nat.reduceLeDiff, Nat.le_add_left, Nat.zero_le, Nat.le_refl, znew, true_or, or_true, b01_t, b01_f, b01_ok, bool_ft, vp_b01, vp_b0, vp_b1, b01_eq0, b01_eq1, implies_true, nI_add, nI_clamp, zi_in, zi_le_t, zi_le_f, zi_lt_t, zi_lt_f, zi_eq_t, zi_eq_f, nI_leI, nI_ltI, nI_eq, z_in, pk_mul, zu_same, zu_rw, zu_ix, zi_ne0, zi_sub, zi_m1, Nat.add_sub_cancel, Nat.reduceMul, Nat.reduceSub]
  refine zC.of0 (zX10_must hM hA hC (by omega) (by omega)) (by omega) (Nat.zero_le _) (Nat.zero_le _) ?_
  rintro _ _ ⟨rfl, S1, rfl, hf1, hC1⟩
  have hN1 := hN.fr hf1 rfl rfl
  have hf1' : zfr [9] [11, 13, 14, 20] b S S1 := hf1.tr zfr.rf rfl rfl (D' := []) (F' := []) rfl rfl
  cases hst : pB st (pMust A 4) with
  | error e =>
    rw [hst] at hC1 hVQ
    obtain ⟨n, h13, hn, hn5⟩ := hC1.bad
    refine sX10_endsName_5 _ _ _ _ _ ?_
    simp (disch := omega) only [oAld, oAst1, oBin, oDup, oGI, oGR, oIf, oIld, oLald, oLast, oPI, oPush, oRV, hM.1, hM.r21, hM.t21, hM.n21, hM.r8, hM.t8, hM.n8, hM.r22, hM.t22, hM.n22, h13, List.getElem?_cons_zero, List.getElem?_cons_succ, List.set_cons_zero, List.set_cons_succ, List.drop_succ_cons, List.drop_zero, List.take_succ_cons, List.take_zero, List.length_cons, List.length_nil, List.reverse_cons, List.reverse_nil, List.nil_append, List.cons_append, Option.toList_some, Option.toList_none, va_rf_s, true_and, and_true, true_implies, false_implies, not_true_eq_false, not_false_eq_true, Nat.reduceAdd, Nat.reduceLeDiff, Nat.le_add_left, Nat.zero_le, Nat.le_refl, znew, true_or, or_true, b01_t, b01_f, b01_ok, bool_ft, vp_b01, vp_b0, vp_b1, b01_eq0, b01_eq1, implies_true, nI_add, nI_clamp, zi_in, zi_le_t, zi_le_f, zi_lt_t, zi_lt_f, zi_eq_t, zi_eq_f, nI_leI, nI_ltI, nI_eq, z_in, pk_mul, zu_same, zu_rw, zu_ix, zi_ne0, zi_sub, zi_m1, Nat.add_sub_cancel, Nat.reduceMul, Nat.reduceSub]
    exact hVQ _ _ ⟨rfl, S1, L, rfl, hf1', fun _ _ => rfl, hC1, fun q e => by cases e⟩
  | ok q1 =>
    rw [hst] at hC1 hVQ
    obtain ⟨q, rfl⟩ : ∃ q, st = .ok q := by
      cases st with
      | error e => cases hst
      | ok q => exact ⟨q, rfl⟩
    have htl := ht q rfl
    obtain ⟨-, -, -, e6⟩ := hC.tok htl ht4
    have h13 := hC1.good
    have h20 := hN1.1
    have htn := (hA.2.2 tok).2.2.2
    refine sX10_endsName_5 _ _ _ _ _ ?_
    simp (disch := omega) only [oAld, oAst1, oBin, oDup, oGI, oGR, oIf, oIld, oLald, oLast, oPI, oPush, oRV, hM.1, hM.r21, hM.t21, hM.n21, hM.r8, hM.t8, hM.n8, hM.r22, hM.t22, hM.n22, h13, h20, e6, List.getElem?_cons_zero, List.getElem?_cons_succ, List.set_cons_zero, List.set_cons_succ, List.drop_succ_cons, List.drop_zero, List.take_succ_cons, List.take_zero, List.length_cons, List.length_nil, List.reverse_cons, List.reverse_nil, List.nil_append, List.cons_append, Option.toList_some, Option.toList_none, va_rf_s, true_and, and_true, true_implies, false_implies, not_true_eq_false, not_false_eq_true, Nat.reduceAdd, Nat.reduceLeDiff, Nat.le_add_left, Nat.zero_le, Nat.le_refl, znew, true_or, or_true, b01_t, b01_f, b01_ok, bool_ft, vp_b01, vp_b0, vp_b1, b01_eq0, b01_eq1, implies_true, nI_add, nI_clamp, zi_in, zi_le_t, zi_le_f, zi_lt_t, zi_lt_f, zi_eq_t, zi_eq_f, nI_leI, nI_ltI, nI_eq, z_in, pk_mul, zu_same, zu_rw, zu_ix, zi_ne0, zi_sub, zi_m1, Nat.add_sub_cancel, Nat.reduceMul, Nat.reduceSub]
    have hfx : zfr [9] [20] b S1 (zu (zu S1 (b + 9) N.length (nI c)) b 20 (nI (N.length + 1))) := (zfr.rf.row (by decide) (by decide)).fld (by decide)
    have hLx : ∀ a, a ≠ b + 8 → zu L (b + 8) N.length (lN (hsL (tkN A tok))) a = L a := fun a ha => zu_rw _ _ ha
    refine hVQ _ _ ⟨rfl, _, _, rfl, hf1.tr hfx rfl rfl rfl rfl, hLx, hC1.frL hfx rfl rfl hLx, fun _ _ => ⟨by simp (disch := omega) only [List.getElem?_cons_zero, List.getElem?_cons_succ, List.set_cons_zero, List.set_cons_succ, List.drop_succ_cons, List.drop_zero, List.take_succ_cons, List.take_zero, List.length_cons, List.length_nil, List.reverse_cons, List.reverse_nil, List.nil_append, List.cons_append, Option.toList_some, Option.toList_none, va_rf_s, true_and, and_true, true_implies, false_implies, not_true_eq_false, not_false_eq_true, Nat.reduceAdd, Nat.reduceLeDiff, Nat.le_add_left, Nat.zero_le, Nat.le_refl, znew, true_or, or_true, b01_t, b01_f, b01_ok, bool_ft, vp_b01, vp_b0, vp_b1, b01_eq0, b01_eq1, implies_true, nI_add, nI_clamp, zi_in, zi_le_t, zi_le_f, zi_lt_t, zi_lt_f, zi_eq_t, zi_eq_f, nI_leI, nI_ltI, nI_eq, z_in, pk_mul, zu_same, zu_rw, zu_ix, zi_ne0, zi_sub, zi_m1, Nat.add_sub_cancel, Nat.reduceMul, Nat.reduceSub, List.length_append], by simp; omega, fun i hi => ?_⟩⟩
    rw [getD_snocN]
    by_cases he : i = N.length
    · subst he
      rw [if_pos rfl]
      exact ⟨by simp (disch := omega) only [List.getElem?_cons_zero, List.getElem?_cons_succ, List.set_cons_zero, List.set_cons_succ, List.drop_succ_cons, List.drop_zero, List.take_succ_cons, List.take_zero, List.length_cons, List.length_nil, List.reverse_cons, List.reverse_nil, List.nil_append, List.cons_append, Option.toList_some, Option.toList_none, va_rf_s, true_and, and_true, true_implies, false_implies, not_true_eq_false, not_false_eq_true, Nat.reduceAdd, Nat.reduceLeDiff, Nat.le_add_left, Nat.zero_le, Nat.le_refl, znew, true_or, or_true, b01_t, b01_f, b01_ok, bool_ft, vp_b01, vp_b0, vp_b1, b01_eq0, b01_eq1, implies_true, nI_add, nI_clamp, zi_in, zi_le_t, zi_le_f, zi_lt_t, zi_lt_f, zi_eq_t, zi_eq_f, nI_leI, nI_ltI, nI_eq, z_in, pk_mul, zu_same, zu_rw, zu_ix, zi_ne0, zi_sub, zi_m1, Nat.add_sub_cancel, Nat.reduceMul, Nat.reduceSub, ], by simp (disch := omega) only [List.getElem?_cons_zero, List.getElem?_cons_succ, List.set_cons_zero, List.set_cons_succ, List.drop_succ_cons, List.drop_zero, List.take_succ_cons, List.take_zero, List.length_cons, List.length_nil, List.reverse_cons, List.reverse_nil, List.nil_append, List.cons_append, Option.toList_some, Option.toList_none, va_rf_s, true_and, and_true, true_implies, false_implies, not_true_eq_false, not_false_eq_true, Nat.reduceAdd, Nat.reduceLeDiff, Nat.le_add_left, Nat.zero_le, Nat.le_refl, znew, true_or, or_true, b01_t, b01_f, b01_ok, bool_ft, vp_b01, vp_b0, vp_b1, b01_eq0, b01_eq1, implies_true, nI_add, nI_clamp, zi_in, zi_le_t, zi_le_f, zi_lt_t, zi_lt_f, zi_eq_t, zi_eq_f, nI_leI, nI_ltI, nI_eq, z_in, pk_mul, zu_same, zu_rw, zu_ix, zi_ne0, zi_sub, zi_m1, Nat.add_sub_cancel, Nat.reduceMul, Nat.reduceSub, ], htn, hc⟩
    · have hi' : i < N.length := by simp at hi; omega
      obtain ⟨q1, q2, q3, q4⟩ := hN1.2.2 i hi'
      rw [if_neg he, if_pos hi']
      exact ⟨by simp (disch := omega) only [List.getElem?_cons_zero, List.getElem?_cons_succ, List.set_cons_zero, List.set_cons_succ, List.drop_succ_cons, List.drop_zero, List.take_succ_cons, List.take_zero, List.length_cons, List.length_nil, List.reverse_cons, List.reverse_nil, List.nil_append, List.cons_append, Option.toList_some, Option.toList_none, va_rf_s, true_and, and_true, true_implies, false_implies, not_true_eq_false, not_false_eq_true, Nat.reduceAdd, Nat.reduceLeDiff, Nat.le_add_left, Nat.zero_le, Nat.le_refl, znew, true_or, or_true, b01_t, b01_f, b01_ok, bool_ft, vp_b01, vp_b0, vp_b1, b01_eq0, b01_eq1, implies_true, nI_add, nI_clamp, zi_in, zi_le_t, zi_le_f, zi_lt_t, zi_lt_f, zi_eq_t, zi_eq_f, nI_leI, nI_ltI, nI_eq, z_in, pk_mul, zu_same, zu_rw, zu_ix, zi_ne0, zi_sub, zi_m1, Nat.add_sub_cancel, Nat.reduceMul, Nat.reduceSub, q1], by simp (disch := omega) only [List.getElem?_cons_zero, List.getElem?_cons_succ, List.set_cons_zero, List.set_cons_succ, List.drop_succ_cons, List.drop_zero, List.take_succ_cons, List.take_zero, List.length_cons, List.length_nil, List.reverse_cons, List.reverse_nil, List.nil_append, List.cons_append, Option.toList_some, Option.toList_none, va_rf_s, true_and, and_true, true_implies, false_implies, not_true_eq_false, not_false_eq_true, Nat.reduceAdd, Nat.reduceLeDiff, Nat.le_add_left, Nat.zero_le, Nat.le_refl, znew, true_or, or_true, b01_t, b01_f, b01_ok, bool_ft, vp_b01, vp_b0, vp_b1, b01_eq0, b01_eq1, implies_true, nI_add, nI_clamp, zi_in, zi_le_t, zi_le_f, zi_lt_t, zi_lt_f, zi_eq_t, zi_eq_f, nI_leI, nI_ltI, nI_eq, z_in, pk_mul, zu_same, zu_rw, zu_ix, zi_ne0, zi_sub, zi_m1, Nat.add_sub_cancel, Nat.reduceMul, Nat.reduceSub, q2], q3, q4⟩
theorem zX10_toldInt (hM : isM h b) (hA : tkW A) (hC : mC b S L A st) (h0 : ∀ q, st = .ok q → tkK A q.1 ≠ 0) {hi : Nat} (hhi : hi < 20000) :
    zM l E 3 YX10_toldInt [.ref b, .int (nI hi)] (z, h, S, L) 0 0 (fun r X => ∃ S' v, r = some (.int v) ∧ X = (z, h, S', L) ∧ zfr [] [11, 13, 14, 15, 16] b S S' ∧ mC b S' L A (pB (pV (pB (pB st (pGo A)) (pNum A 0 hi))) (pMust A 4)) ∧ ∀ n q, pB (pB st (pGo A)) (pNum A 0 hi) = .ok (n, q) → v = nI n) (fun _ _ => False) := by
  refine zM.go rfl rfl (Nat.le_of_ble_eq_true rfl) (ls := [some (.ref b), some (.int (nI hi)), none]) rfl ?_
  intro V hVl hVE hVd hVc hVs hVQ hVX
  refine sX10_toldInt_0 _ _ _ _ _ ?_
  simp (disch := omega) only [oAld, oCV, hM.1, List.getElem?_cons_zero, List.getElem?_cons_succ, List.set_cons_zero, List.set_cons_succ, List.drop_succ_cons, List.drop_zero, List.take_succ_cons, List.take_zero, List.length_cons, List.length_nil, List.reverse_cons, List.reverse_nil, List.nil_append, List.cons_append, Option.toList_some, Option.toList_none, va_rf_s, true_and, and_true, true_implies, false_implies, not_true_eq_false, not_false_eq_true, Nat.reduceAdd, Nat.reduceLeDiff, Nat.le_add_left, Nat.zero_le, Nat.le_refl, znew, true_or, or_true, b01_t, b01_f, b01_ok, bool_ft, vp_b01, vp_b0, vp_b1, b01_eq0, b01_eq1, implies_true, nI_add, nI_clamp, zi_in, zi_le_t, zi_le_f, zi_lt_t, zi_lt_f, zi_eq_t, zi_eq_f, nI_leI, nI_ltI, nI_eq, z_in, pk_mul, zu_same, zu_rw, zu_ix, zi_ne0, zi_sub, zi_m1, Nat.add_sub_cancel, Nat.reduceMul, Nat.reduceSub]
  refine zC.of0 (zX10_goesOn hM hA hC h0) (by omega) (Nat.zero_le _) (Nat.zero_le _) ?_
  rintro _ _ ⟨rfl, S1, rfl, hf1, hC1⟩
  refine sX10_toldInt_4 _ _ _ _ _ ?_
  simp (disch := omega) only [oAld, oCV, oIld, oPush, hM.1, List.getElem?_cons_zero, List.getElem?_cons_succ, List.set_cons_zero, List.set_cons_succ, List.drop_succ_cons, List.drop_zero, List.take_succ_cons, List.take_zero, List.length_cons, List.length_nil, List.reverse_cons, List.reverse_nil, List.nil_append, List.cons_append, Option.toList_some, Option.toList_none, va_rf_s, true_and, and_true, true_implies, false_implies, not_true_eq_false, not_false_eq_true, Nat.reduceAdd, Nat.reduceLeDiff, Nat.le_add_left, Nat.zero_le, Nat.le_refl, znew, true_or, or_true, b01_t, b01_f, b01_ok, bool_ft, vp_b01, vp_b0, vp_b1, b01_eq0, b01_eq1, implies_true, nI_add, nI_clamp, zi_in, zi_le_t, zi_le_f, zi_lt_t, zi_lt_f, zi_eq_t, zi_eq_f, nI_leI, nI_ltI, nI_eq, z_in, pk_mul, zu_same, zu_rw, zu_ix, zi_ne0, zi_sub, zi_m1, Nat.add_sub_cancel, Nat.reduceMul, Nat.reduceSub]
  refine zC.of0 (zX10_bounded hM hA hC1 (by omega) hhi) (by omega) (Nat.zero_le _) (Nat.zero_le _) ?_
  rintro _ _ ⟨S2, v, rfl, rfl, hf2, hC2, hv⟩
  refine sX10_toldInt_10 _ _ _ _ _ ?_
  simp (disch := omega) only [oAld, oCV, oIst, oPush, hM.1, List.getElem?_cons_zero, List.getElem?_cons_succ, List.set_cons_zero, List.set_cons_succ, List.drop_succ_cons, List.drop_zero, List.take_succ_cons, List.take_zero, List.length_cons, List.length_nil, List.reverse_cons, List.reverse_nil, List.nil_append, List.cons_append, Option.toList_some, Option.toList_none, va_rf_s, true_and, and_true, true_implies, false_implies, not_true_eq_false, not_false_eq_true, Nat.reduceAdd, Nat.reduceLeDiff, Nat.le_add_left, Nat.zero_le, Nat.le_refl, znew, true_or, or_true, b01_t, b01_f, b01_ok, bool_ft, vp_b01, vp_b0, vp_b1, b01_eq0, b01_eq1, implies_true, nI_add, nI_clamp, zi_in, zi_le_t, zi_le_f, zi_lt_t, zi_lt_f, zi_eq_t, zi_eq_f, nI_leI, nI_ltI, nI_eq, z_in, pk_mul, zu_same, zu_rw, zu_ix, zi_ne0, zi_sub, zi_m1, Nat.add_sub_cancel, Nat.reduceMul, Nat.reduceSub]
  refine zC.of0 (zX10_must hM hA hC2 (by omega) (by omega)) (by omega) (Nat.zero_le _) (Nat.zero_le _) ?_
  rintro _ _ ⟨rfl, S3, rfl, hf3, hC3⟩
  refine sX10_toldInt_16 _ _ _ _ _ ?_
  simp (disch := omega) only [oIld, oRI, List.getElem?_cons_zero, List.getElem?_cons_succ, List.set_cons_zero, List.set_cons_succ, List.drop_succ_cons, List.drop_zero, List.take_succ_cons, List.take_zero, List.length_cons, List.length_nil, List.reverse_cons, List.reverse_nil, List.nil_append, List.cons_append, Option.toList_some, Option.toList_none, va_rf_s, true_and, and_true, true_implies, false_implies, not_true_eq_false, not_false_eq_true, Nat.reduceAdd, Nat.reduceLeDiff, Nat.le_add_left, Nat.zero_le, Nat.le_refl, znew, true_or, or_true, b01_t, b01_f, b01_ok, bool_ft, vp_b01, vp_b0, vp_b1, b01_eq0, b01_eq1, implies_true, nI_add, nI_clamp, zi_in, zi_le_t, zi_le_f, zi_lt_t, zi_lt_f, zi_eq_t, zi_eq_f, nI_leI, nI_ltI, nI_eq, z_in, pk_mul, zu_same, zu_rw, zu_ix, zi_ne0, zi_sub, zi_m1, Nat.add_sub_cancel, Nat.reduceMul, Nat.reduceSub]
  exact hVQ _ _ ⟨S3, v, rfl, rfl, (hf1.tr hf2 rfl rfl rfl rfl (D2 := []) (F2 := [11, 13, 14, 15, 16])).tr hf3 rfl rfl rfl rfl, hC3, hv⟩
end MW
