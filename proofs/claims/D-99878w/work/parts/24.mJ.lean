/-! the model: undo, slots, told rows, tape -/
theorem mE.q {b : Nat} {S S1 S2 : Nat → Nat → Int32} {D F : List Nat} (hE : mE b S S1) (hf : zfr D F b S1 S2) (hD : D.all (fun x => Dq.contains x) = true) (hF : F.all (fun x => Fq.contains x) = true) (h37 : D.all (fun x => !(x == 37)) = true) : mE b S S2 :=
  hE.tr (mE.of hE.2 hf hD hF (fun j hj => by rw [hf.at h37 rfl]; exact hE.2.2 j hj))
theorem mE.w {b : Nat} {S S1 S2 : Nat → Nat → Int32} {D F : List Nat} {R : Nat → Int32} (hE : mE b S S1) (hf : zfr D F b S1 S2) (hD : D.all (fun x => Dq.contains x) = true) (hF : F.all (fun x => Fq.contains x) = true) (hr : S2 (b + 37) = R) (hR : ∀ j, 48 ≤ j → R j = nI 0) : mE b S S2 :=
  hE.tr (mE.of hE.2 hf hD hF (fun j hj => by rw [hr]; exact hR j hj))
theorem zfr.tt {D F : List Nat} {b : Nat} {S S' S'' : Nat → Nat → Int32} (h : zfr D F b S S') (h' : zfr D F b S' S'') : zfr D F b S S'' := ⟨fun a h1 h2 => (h'.1 a h1 h2).trans (h.1 a h1 h2), fun j hj => (h'.2 j hj).trans (h.2 j hj)⟩
/-- slots -/
def mH (b : Nat) (S : Nat → Nat → Int32) (H : Nat → Option (Nat → Int32)) : Prop := ∀ s, s < 3 → S (b + 49) s = b01 (H s).isSome ∧ ∀ R, H s = some R → ∀ k, k < 48 → S (b + 50) (48 * s + k) = R k
theorem mH.fr {b : Nat} {S S' : Nat → Nat → Int32} {H : Nat → Option (Nat → Int32)} {D F : List Nat} (h : mH b S H) (hf : zfr D F b S S') (h1 : D.all (fun x => !(x == 49)) = true) (h2 : D.all (fun x => !(x == 50)) = true) : mH b S' H := by
  intro s hs
  rw [hf.at h1 rfl, hf.at h2 rfl]
  exact h s hs
/-- what was told: who, by how much, so or not -/
def mK (b : Nat) (S : Nat → Nat → Int32) (K : List (Nat × Nat × Bool)) : Prop := S b 66 = nI K.length ∧ K.length ≤ 20 ∧ ∀ i, i < K.length → S (b + 46) i = nI (K.getD i (0, 0, false)).1 ∧ S (b + 47) i = nI (K.getD i (0, 0, false)).2.1 ∧ S (b + 48) i = b01 (K.getD i (0, 0, false)).2.2
theorem mK.fr {b : Nat} {S S' : Nat → Nat → Int32} {K : List (Nat × Nat × Bool)} {D F : List Nat} (h : mK b S K) (hf : zfr D F b S S') (h1 : D.all (fun x => !(x == 46)) = true) (h2 : D.all (fun x => !(x == 47)) = true) (h3 : D.all (fun x => !(x == 48)) = true) (h4 : F.all (fun x => !(x == 66)) = true) : mK b S' K := by
  unfold mK
  rw [hf.at h1 rfl, hf.at h2 rfl, hf.at h3 rfl, hf.f h4]
  exact h
/-- the tape -/
def mP (b : Nat) (S : Nat → Nat → Int32) (P : List Int32) : Prop := S b 2 = nI P.length ∧ P.length ≤ 2000 ∧ ∀ i, i < P.length → S (b + 1) i = P.getD i 0
theorem mP.fr {b : Nat} {S S' : Nat → Nat → Int32} {P : List Int32} {D F : List Nat} (h : mP b S P) (hf : zfr D F b S S') (h1 : D.all (fun x => !(x == 1)) = true) (h2 : F.all (fun x => !(x == 2)) = true) : mP b S' P := by
  unfold mP
  rw [hf.at h1 rfl, hf.f h2]
  exact h
def bF (w : Int32) (k : Nat) : Int32 := (w >>> (nI k &&& 31)).toInt8.toInt32
theorem i8_i8 (x : Int32) : x.toInt8.toInt32.toInt8 = x.toInt8 := by
  have h := Int8.toInt8_toInt32 x.toInt8
  exact h
def put4 (w : Int32) : List Int32 := [bF w 24, bF w 16, bF w 8, bF w 0]
theorem getD_snoc {α : Type} (P : List α) (v d : α) (i : Nat) : (P ++ [v]).getD i d = if i = P.length then v else if i < P.length then P.getD i d else d := by
  rw [List.getD_eq_getElem?_getD, List.getElem?_append]
  by_cases h : i < P.length
  · rw [if_pos h, if_neg (by omega), if_pos h, List.getD_eq_getElem?_getD]
  · rw [if_neg h]
    by_cases h2 : i = P.length
    · subst h2; simp
    · rw [if_neg h2, if_neg h, List.getElem?_eq_none (by simp; omega)]; rfl
theorem mP.add {b : Nat} {S : Nat → Nat → Int32} {P : List Int32} (h : mP b S P) (v : Int32) (hl : P.length < 2000) : mP b (zu (zu S (b + 1) P.length v) b 2 (nI (P.length + 1))) (P ++ [v]) := by
  refine ⟨by rw [zu_same]; simp, by simp; omega, fun i hi => ?_⟩
  rw [zu_rw _ _ (by omega), getD_snoc]
  by_cases he : i = P.length
  · subst he; rw [zu_same, if_pos rfl]
  · rw [zu_ix _ _ he, if_neg he, if_pos (by simp at hi; omega)]
    exact h.2.2 i (by simp at hi; omega)
section MJ
variable {l : Launch} {E : zE} {b z : Nat} {h : Nat → Option zSh} {S : Nat → Nat → Int32} {L : Nat → Nat → Int64} {lv : Nat} {t : ZT} {T : Nat → Int32} {U : List (Nat → Int32)} {H : Nat → Option (Nat → Int32)} {K : List (Nat × Nat × Bool)} {P : List Int32}
theorem zX10_undo (hM : isM h b) (hZ : mZ b S) (hN : S (b + 36) = T) (hU0 : hU b S U) (h48 : ∀ R ∈ U, ∀ j, 48 ≤ j → R j = nI 0) :
    zM l E 0 YX10_undo [.ref b] (z, h, S, L) 0 0 (fun r X => ∃ S', X = (z, h, S', L) ∧ ((U = [] ∧ r = some (.int (nI 0)) ∧ mDo b S S' T []) ∨ ∃ R U', U = R :: U' ∧ r = some (.int (nI 1)) ∧ mDo b S S' R U')) (fun _ _ => False) := by
  refine zM.go rfl rfl (Nat.le_of_ble_eq_true rfl) (ls := [some (.ref b), none]) rfl ?_
  intro V hVl hVE hVd hVc hVs hVQ hVX
  obtain ⟨hu, hu40, hh⟩ := id hU0
  cases U with
  | nil =>
    have hu : S b 60 = nI 0 := hu
    refine sX10_undo_0 _ _ _ _ _ ?_
    simp (disch := omega) only [oAld, oBin, oDup, oGI, oIf, oIst, oPI, oPush, oRZ, hM.1, hu, List.getElem?_cons_zero, List.getElem?_cons_succ, List.set_cons_zero, List.set_cons_succ, List.drop_succ_cons, List.drop_zero, List.take_succ_cons, List.take_zero, List.length_cons, List.length_nil, List.reverse_cons, List.reverse_nil, List.nil_append, List.cons_append, Option.toList_some, Option.toList_none, va_rf_s, true_and, and_true, true_implies, false_implies, not_true_eq_false, not_false_eq_true, Nat.reduceAdd, Nat.reduceLeDiff, Nat.le_add_left, Nat.zero_le, Nat.le_refl, znew, true_or, or_true, b01_t, b01_f, b01_ok, bool_ft, vp_b01, vp_b0, vp_b1, b01_eq0, b01_eq1, implies_true, nI_add, nI_clamp, zi_in, zi_le_t, zi_le_f, zi_lt_t, zi_lt_f, zi_eq_t, zi_eq_f, nI_leI, nI_ltI, nI_eq, z_in, pk_mul, zu_same, zu_rw, zu_ix, zi_ne0, zi_sub, zi_m1, Nat.add_sub_cancel, Nat.reduceMul, Nat.reduceSub]
    exact hVQ _ _ ⟨S, rfl, Or.inl ⟨rfl, rfl, mDo.of (mE.rf hZ) hN hU0⟩⟩
  | cons R U' =>
    have hu : S b 60 = nI (U'.length + 1) := hu
    have hu40 : U'.length + 1 ≤ 40 := hu40
    have hR := h48 R (List.mem_cons_self ..)
    have loop : ∀ y, y ≤ 48 → ∀ S', zfr [36] [60] b S S' → S' b 60 = nI U'.length → (∀ j, S' (b + 36) j = if j < y then R j else S (b + 36) j) → zW V YX10_undo 21 [some (.ref b), some (.int (nI y))] [] (z, h, S', L) 0 0 := by
      refine z_down ?_ (fun y hy ih => ?_)
      · intro S' hf h60 hj
        refine sX10_undo_21 _ _ _ _ _ ?_
        simp (disch := omega) only [oAld, oAld1, oAst1, oBin, oGI, oGR, oIfc, oIld, oInc, oNop, oPush, oRZ, hM.1, hM.r53, hM.t53, hM.n53, hM.r61, hM.t61, hM.n61, List.getElem?_cons_zero, List.getElem?_cons_succ, List.set_cons_zero, List.set_cons_succ, List.drop_succ_cons, List.drop_zero, List.take_succ_cons, List.take_zero, List.length_cons, List.length_nil, List.reverse_cons, List.reverse_nil, List.nil_append, List.cons_append, Option.toList_some, Option.toList_none, va_rf_s, true_and, and_true, true_implies, false_implies, not_true_eq_false, not_false_eq_true, Nat.reduceAdd, Nat.reduceLeDiff, Nat.le_add_left, Nat.zero_le, Nat.le_refl, znew, true_or, or_true, b01_t, b01_f, b01_ok, bool_ft, vp_b01, vp_b0, vp_b1, b01_eq0, b01_eq1, implies_true, nI_add, nI_clamp, zi_in, zi_le_t, zi_le_f, zi_lt_t, zi_lt_f, zi_eq_t, zi_eq_f, nI_leI, nI_ltI, nI_eq, z_in, pk_mul, zu_same, zu_rw, zu_ix, zi_ne0, zi_sub, zi_m1, Nat.add_sub_cancel, Nat.reduceMul, Nat.reduceSub]
        have h36 : S' (b + 36) = R := by
          funext j
          rw [hj]
          by_cases hj2 : j < 48
          · rw [if_pos hj2]
          · rw [if_neg hj2, hZ.1 j (by omega), hR j (by omega)]
        refine hVQ _ _ ⟨S', rfl, Or.inr ⟨R, U', rfl, rfl, hf.tr zfr.rf rfl rfl (D' := []) (F' := []) rfl rfl, ⟨fun j hj => by rw [h36]; exact hR j hj, fun j hj => by rw [hf.at (o := 37) rfl rfl]; exact hZ.2 j hj⟩, h36, h60, by omega, fun i hi k hk => ?_⟩⟩
        rw [hf.at (o := 41) rfl rfl, hh i (by simp; omega) k hk]
        simp only [List.length_cons]
        rw [show U'.length + 1 - 1 - i = (U'.length - 1 - i) + 1 by omega, List.getD_cons_succ]
      · intro S' hf h60 hj
        have hv : S (b + 41) (48 * U'.length + y) = R y := by
          rw [hh U'.length (by simp) y hy]
          simp
        refine sX10_undo_21 _ _ _ _ _ ?_
        simp (disch := omega) only [oAld, oAld1, oAst1, oBin, oGI, oGR, oIfc, oIld, oInc, oNop, oPush, oRZ, hM.1, hM.r53, hM.t53, hM.n53, hM.r61, hM.t61, hM.n61, h60, hf.at (o := 41) rfl rfl, hv, List.getElem?_cons_zero, List.getElem?_cons_succ, List.set_cons_zero, List.set_cons_succ, List.drop_succ_cons, List.drop_zero, List.take_succ_cons, List.take_zero, List.length_cons, List.length_nil, List.reverse_cons, List.reverse_nil, List.nil_append, List.cons_append, Option.toList_some, Option.toList_none, va_rf_s, true_and, and_true, true_implies, false_implies, not_true_eq_false, not_false_eq_true, Nat.reduceAdd, Nat.reduceLeDiff, Nat.le_add_left, Nat.zero_le, Nat.le_refl, znew, true_or, or_true, b01_t, b01_f, b01_ok, bool_ft, vp_b01, vp_b0, vp_b1, b01_eq0, b01_eq1, implies_true, nI_add, nI_clamp, zi_in, zi_le_t, zi_le_f, zi_lt_t, zi_lt_f, zi_eq_t, zi_eq_f, nI_leI, nI_ltI, nI_eq, z_in, pk_mul, zu_same, zu_rw, zu_ix, zi_ne0, zi_sub, zi_m1, Nat.add_sub_cancel, Nat.reduceMul, Nat.reduceSub]
        refine ih _ (hf.row (by decide) (by decide)) (by rw [zu_rw _ _ (by omega)]; exact h60) (fun j => ?_)
        by_cases hjy : j = y
        · subst hjy; rw [zu_same, if_pos (by omega)]
        · rw [zu_ix _ _ hjy, hj]
          by_cases hlt : j < y
          · rw [if_pos hlt, if_pos (by omega)]
          · rw [if_neg hlt, if_neg (by omega)]
    refine sX10_undo_0 _ _ _ _ _ ?_
    simp (disch := omega) only [oAld, oBin, oDup, oGI, oIf, oIst, oPI, oPush, oRZ, hM.1, hu, List.getElem?_cons_zero, List.getElem?_cons_succ, List.set_cons_zero, List.set_cons_succ, List.drop_succ_cons, List.drop_zero, List.take_succ_cons, List.take_zero, List.length_cons, List.length_nil, List.reverse_cons, List.reverse_nil, List.nil_append, List.cons_append, Option.toList_some, Option.toList_none, va_rf_s, true_and, and_true, true_implies, false_implies, not_true_eq_false, not_false_eq_true, Nat.reduceAdd, Nat.reduceLeDiff, Nat.le_add_left, Nat.zero_le, Nat.le_refl, znew, true_or, or_true, b01_t, b01_f, b01_ok, bool_ft, vp_b01, vp_b0, vp_b1, b01_eq0, b01_eq1, implies_true, nI_add, nI_clamp, zi_in, zi_le_t, zi_le_f, zi_lt_t, zi_lt_f, zi_eq_t, zi_eq_f, nI_leI, nI_ltI, nI_eq, z_in, pk_mul, zu_same, zu_rw, zu_ix, zi_ne0, zi_sub, zi_m1, Nat.add_sub_cancel, Nat.reduceMul, Nat.reduceSub]
    exact loop 0 (by omega) _ (zfr.rf.fld (by decide)) (zu_same _ _ _ _) (fun j => by rw [if_neg (by omega), zu_rw _ _ (by omega)])
theorem zX10_hold (hM : isM h b) (hN : S (b + 36) = T) (hH : mH b S H) (s : Int32) :
    zM l E 1 YX10_hold [.ref b, .int s] (z, h, S, L) 0 0 (fun r X => ∃ S', X = (z, h, S', L) ∧ zfr [49, 50] [] b S S' ∧ ((okI s 3 = false ∧ r = some (.int (nI 0)) ∧ mH b S' H) ∨ (okI s 3 = true ∧ r = some (.int (nI 1)) ∧ mH b S' (fun j => if j = s.toNatClampNeg then some T else H j)))) (fun _ _ => False) := by
  refine zM.go rfl rfl (Nat.le_of_ble_eq_true rfl) (ls := [some (.ref b), some (.int s), none]) rfl ?_
  intro V hVl hVE hVd hVc hVs hVQ hVX
  refine sX10_hold_0 _ _ _ _ _ ?_
  simp (disch := omega) only [oCS, oIld, oPush, List.getElem?_cons_zero, List.getElem?_cons_succ, List.set_cons_zero, List.set_cons_succ, List.drop_succ_cons, List.drop_zero, List.take_succ_cons, List.take_zero, List.length_cons, List.length_nil, List.reverse_cons, List.reverse_nil, List.nil_append, List.cons_append, Option.toList_some, Option.toList_none, va_rf_s, true_and, and_true, true_implies, false_implies, not_true_eq_false, not_false_eq_true, Nat.reduceAdd, Nat.reduceLeDiff, Nat.le_add_left, Nat.zero_le, Nat.le_refl, znew, true_or, or_true, b01_t, b01_f, b01_ok, bool_ft, vp_b01, vp_b0, vp_b1, b01_eq0, b01_eq1, implies_true, nI_add, nI_clamp, zi_in, zi_le_t, zi_le_f, zi_lt_t, zi_lt_f, zi_eq_t, zi_eq_f, nI_leI, nI_ltI, nI_eq, z_in, pk_mul, zu_same, zu_rw, zu_ix, zi_ne0, zi_sub, zi_m1, Nat.add_sub_cancel, Nat.reduceMul, Nat.reduceSub]
  refine zC.of0 (zX10_in _ _ _ _) (by omega) (Nat.zero_le _) (Nat.zero_le _) ?_
  rintro _ _ ⟨rfl, rfl⟩
  rw [okI_dec2 (by omega)]
  cases hok : okI s (2 + 1) with
  | false =>
    refine sX10_hold_6 _ _ _ _ _ ?_
    simp (disch := omega) only [oAld, oAst1, oGR, oIf, oIld, oIst, oPush, oRZ, hM.1, hM.r70, hM.t70, hM.n70, List.getElem?_cons_zero, List.getElem?_cons_succ, List.set_cons_zero, List.set_cons_succ, List.drop_succ_cons, List.drop_zero, List.take_succ_cons, List.take_zero, List.length_cons, List.length_nil, List.reverse_cons, List.reverse_nil, List.nil_append, List.cons_append, Option.toList_some, Option.toList_none, va_rf_s, true_and, and_true, true_implies, false_implies, not_true_eq_false, not_false_eq_true, Nat.reduceAdd, Nat.reduceLeDiff, Nat.le_add_left, Nat.zero_le, Nat.le_refl, znew, true_or, or_true, b01_t, b01_f, b01_ok, bool_ft, vp_b01, vp_b0, vp_b1, b01_eq0, b01_eq1, implies_true, nI_add, nI_clamp, zi_in, zi_le_t, zi_le_f, zi_lt_t, zi_lt_f, zi_eq_t, zi_eq_f, nI_leI, nI_ltI, nI_eq, z_in, pk_mul, zu_same, zu_rw, zu_ix, zi_ne0, zi_sub, zi_m1, Nat.add_sub_cancel, Nat.reduceMul, Nat.reduceSub]
    exact hVQ _ _ ⟨S, rfl, zfr.rf, Or.inl ⟨hok, rfl, hH⟩⟩
  | true =>
    obtain ⟨m, hm, rfl⟩ := (okI_iff (by omega)).mp hok
    have loop : ∀ y, y ≤ 48 → ∀ S', zfr [49, 50] [] b S S' → (∀ j, S' (b + 49) j = if j = m then nI 1 else S (b + 49) j) → (∀ j, (∀ k, k < 48 → j ≠ 48 * m + k) → S' (b + 50) j = S (b + 50) j) → (∀ k, k < y → S' (b + 50) (48 * m + k) = T k) → zW V YX10_hold 20 [some (.ref b), some (.int (nI m)), some (.int (nI y))] [] (z, h, S', L) 0 0 := by
      refine z_down ?_ (fun y hy ih => ?_)
      · intro S' hf h49 h50 hk
        refine sX10_hold_20 _ _ _ _ _ ?_
        simp (disch := omega) only [oAld, oAld1, oAst1, oBin, oGR, oIfc, oIld, oInc, oNop, oPush, oRZ, hM.1, hM.r71, hM.t71, hM.n71, hM.r53, hM.t53, hM.n53, List.getElem?_cons_zero, List.getElem?_cons_succ, List.set_cons_zero, List.set_cons_succ, List.drop_succ_cons, List.drop_zero, List.take_succ_cons, List.take_zero, List.length_cons, List.length_nil, List.reverse_cons, List.reverse_nil, List.nil_append, List.cons_append, Option.toList_some, Option.toList_none, va_rf_s, true_and, and_true, true_implies, false_implies, not_true_eq_false, not_false_eq_true, Nat.reduceAdd, Nat.reduceLeDiff, Nat.le_add_left, Nat.zero_le, Nat.le_refl, znew, true_or, or_true, b01_t, b01_f, b01_ok, bool_ft, vp_b01, vp_b0, vp_b1, b01_eq0, b01_eq1, implies_true, nI_add, nI_clamp, zi_in, zi_le_t, zi_le_f, zi_lt_t, zi_lt_f, zi_eq_t, zi_eq_f, nI_leI, nI_ltI, nI_eq, z_in, pk_mul, zu_same, zu_rw, zu_ix, zi_ne0, zi_sub, zi_m1, Nat.add_sub_cancel, Nat.reduceMul, Nat.reduceSub]
        refine hVQ _ _ ⟨S', rfl, hf, Or.inr ⟨hok, rfl, fun j hj => ?_⟩⟩
        rw [nI_clamp (by omega), h49]
        by_cases hjm : j = m
        · subst hjm
          simp only [if_true]
          exact ⟨rfl, fun R hR k hk2 => by cases hR; exact hk k hk2⟩
        · simp only [if_neg hjm]
          refine ⟨(hH j hj).1, fun R hR k hk2 => ?_⟩
          rw [h50 _ (fun i hi => by omega)]
          exact (hH j hj).2 R hR k hk2
      · intro S' hf h49 h50 hk
        refine sX10_hold_20 _ _ _ _ _ ?_
        simp (disch := omega) only [oAld, oAld1, oAst1, oBin, oGR, oIfc, oIld, oInc, oNop, oPush, oRZ, hM.1, hM.r71, hM.t71, hM.n71, hM.r53, hM.t53, hM.n53, hf.at (o := 36) rfl rfl, hN, List.getElem?_cons_zero, List.getElem?_cons_succ, List.set_cons_zero, List.set_cons_succ, List.drop_succ_cons, List.drop_zero, List.take_succ_cons, List.take_zero, List.length_cons, List.length_nil, List.reverse_cons, List.reverse_nil, List.nil_append, List.cons_append, Option.toList_some, Option.toList_none, va_rf_s, true_and, and_true, true_implies, false_implies, not_true_eq_false, not_false_eq_true, Nat.reduceAdd, Nat.reduceLeDiff, Nat.le_add_left, Nat.zero_le, Nat.le_refl, znew, true_or, or_true, b01_t, b01_f, b01_ok, bool_ft, vp_b01, vp_b0, vp_b1, b01_eq0, b01_eq1, implies_true, nI_add, nI_clamp, zi_in, zi_le_t, zi_le_f, zi_lt_t, zi_lt_f, zi_eq_t, zi_eq_f, nI_leI, nI_ltI, nI_eq, z_in, pk_mul, zu_same, zu_rw, zu_ix, zi_ne0, zi_sub, zi_m1, Nat.add_sub_cancel, Nat.reduceMul, Nat.reduceSub]
        refine ih _ (hf.row (by decide) (by decide)) (fun j => by rw [zu_rw _ _ (by omega)]; exact h49 j) (fun j hj => by rw [zu_ix _ _ (hj y hy)]; exact h50 j hj) (fun k hk2 => ?_)
        by_cases hky : k = y
        · subst hky; rw [zu_same]
        · rw [zu_ix _ _ (by omega)]; exact hk k (by omega)
    refine sX10_hold_6 _ _ _ _ _ ?_
    simp (disch := omega) only [oAld, oAst1, oGR, oIf, oIld, oIst, oPush, oRZ, hM.1, hM.r70, hM.t70, hM.n70, List.getElem?_cons_zero, List.getElem?_cons_succ, List.set_cons_zero, List.set_cons_succ, List.drop_succ_cons, List.drop_zero, List.take_succ_cons, List.take_zero, List.length_cons, List.length_nil, List.reverse_cons, List.reverse_nil, List.nil_append, List.cons_append, Option.toList_some, Option.toList_none, va_rf_s, true_and, and_true, true_implies, false_implies, not_true_eq_false, not_false_eq_true, Nat.reduceAdd, Nat.reduceLeDiff, Nat.le_add_left, Nat.zero_le, Nat.le_refl, znew, true_or, or_true, b01_t, b01_f, b01_ok, bool_ft, vp_b01, vp_b0, vp_b1, b01_eq0, b01_eq1, implies_true, nI_add, nI_clamp, zi_in, zi_le_t, zi_le_f, zi_lt_t, zi_lt_f, zi_eq_t, zi_eq_f, nI_leI, nI_ltI, nI_eq, z_in, pk_mul, zu_same, zu_rw, zu_ix, zi_ne0, zi_sub, zi_m1, Nat.add_sub_cancel, Nat.reduceMul, Nat.reduceSub]
    refine loop 0 (by omega) _ (zfr.rf.row (by decide) (by decide)) (fun j => ?_) (fun j hj => by rw [zu_rw _ _ (by omega)]) (fun k hk => absurd hk (by omega))
    by_cases hjm : j = m
    · subst hjm; rw [zu_same, if_pos rfl]
    · rw [zu_ix _ _ hjm, if_neg hjm]
theorem zX10_restore (hM : isM h b) (hZ : mZ b S) (hN : S (b + 36) = T) (hU0 : hU b S U) (hH : mH b S H) (h48 : ∀ s R, H s = some R → ∀ j, 48 ≤ j → R j = nI 0) (s : Int32) :
    zM l E 1 YX10_restore [.ref b, .int s] (z, h, S, L) 0 0 (fun r X => ∃ S', X = (z, h, S', L) ∧ (((okI s 3 = false ∨ H s.toNatClampNeg = none) ∧ r = some (.int (nI 0)) ∧ mDo b S S' T U) ∨ ∃ R, okI s 3 = true ∧ H s.toNatClampNeg = some R ∧ r = some (.int (nI 1)) ∧ mDo b S S' R [])) (fun _ _ => False) := by
  refine zM.go rfl rfl (Nat.le_of_ble_eq_true rfl) (ls := [some (.ref b), some (.int s), none]) rfl ?_
  intro V hVl hVE hVd hVc hVs hVQ hVX
  refine sX10_restore_0 _ _ _ _ _ ?_
  simp (disch := omega) only [oCS, oIld, oPush, List.getElem?_cons_zero, List.getElem?_cons_succ, List.set_cons_zero, List.set_cons_succ, List.drop_succ_cons, List.drop_zero, List.take_succ_cons, List.take_zero, List.length_cons, List.length_nil, List.reverse_cons, List.reverse_nil, List.nil_append, List.cons_append, Option.toList_some, Option.toList_none, va_rf_s, true_and, and_true, true_implies, false_implies, not_true_eq_false, not_false_eq_true, Nat.reduceAdd, Nat.reduceLeDiff, Nat.le_add_left, Nat.zero_le, Nat.le_refl, znew, true_or, or_true, b01_t, b01_f, b01_ok, bool_ft, vp_b01, vp_b0, vp_b1, b01_eq0, b01_eq1, implies_true, nI_add, nI_clamp, zi_in, zi_le_t, zi_le_f, zi_lt_t, zi_lt_f, zi_eq_t, zi_eq_f, nI_leI, nI_ltI, nI_eq, z_in, pk_mul, zu_same, zu_rw, zu_ix, zi_ne0, zi_sub, zi_m1, Nat.add_sub_cancel, Nat.reduceMul, Nat.reduceSub]
  refine zC.of0 (zX10_in _ _ _ _) (by omega) (Nat.zero_le _) (Nat.zero_le _) ?_
  rintro _ _ ⟨rfl, rfl⟩
  rw [okI_dec2 (by omega)]
  cases hok : okI s (2 + 1) with
  | false =>
    refine sX10_restore_6 _ _ _ _ _ ?_
    simp (disch := omega) only [oAld, oAld1, oGR, oIf, oIld, oIst, oPush, oRZ, hM.1, hM.r70, hM.t70, hM.n70, List.getElem?_cons_zero, List.getElem?_cons_succ, List.set_cons_zero, List.set_cons_succ, List.drop_succ_cons, List.drop_zero, List.take_succ_cons, List.take_zero, List.length_cons, List.length_nil, List.reverse_cons, List.reverse_nil, List.nil_append, List.cons_append, Option.toList_some, Option.toList_none, va_rf_s, true_and, and_true, true_implies, false_implies, not_true_eq_false, not_false_eq_true, Nat.reduceAdd, Nat.reduceLeDiff, Nat.le_add_left, Nat.zero_le, Nat.le_refl, znew, true_or, or_true, b01_t, b01_f, b01_ok, bool_ft, vp_b01, vp_b0, vp_b1, b01_eq0, b01_eq1, implies_true, nI_add, nI_clamp, zi_in, zi_le_t, zi_le_f, zi_lt_t, zi_lt_f, zi_eq_t, zi_eq_f, nI_leI, nI_ltI, nI_eq, z_in, pk_mul, zu_same, zu_rw, zu_ix, zi_ne0, zi_sub, zi_m1, Nat.add_sub_cancel, Nat.reduceMul, Nat.reduceSub]
    exact hVQ _ _ ⟨S, rfl, Or.inl ⟨Or.inl hok, rfl, mDo.of (mE.rf hZ) hN hU0⟩⟩
  | true =>
    obtain ⟨m, hm, rfl⟩ := (okI_iff (by omega)).mp hok
    obtain ⟨h49, h50⟩ := hH m hm
    cases hHm : H m with
    | none =>
      rw [hHm] at h49
      have h49 : S (b + 49) m = nI 0 := h49
      refine sX10_restore_6 _ _ _ _ _ ?_
      simp (disch := omega) only [oAld, oAld1, oGR, oIf, oIld, oIst, oPush, oRZ, hM.1, hM.r70, hM.t70, hM.n70, h49, List.getElem?_cons_zero, List.getElem?_cons_succ, List.set_cons_zero, List.set_cons_succ, List.drop_succ_cons, List.drop_zero, List.take_succ_cons, List.take_zero, List.length_cons, List.length_nil, List.reverse_cons, List.reverse_nil, List.nil_append, List.cons_append, Option.toList_some, Option.toList_none, va_rf_s, true_and, and_true, true_implies, false_implies, not_true_eq_false, not_false_eq_true, Nat.reduceAdd, Nat.reduceLeDiff, Nat.le_add_left, Nat.zero_le, Nat.le_refl, znew, true_or, or_true, b01_t, b01_f, b01_ok, bool_ft, vp_b01, vp_b0, vp_b1, b01_eq0, b01_eq1, implies_true, nI_add, nI_clamp, zi_in, zi_le_t, zi_le_f, zi_lt_t, zi_lt_f, zi_eq_t, zi_eq_f, nI_leI, nI_ltI, nI_eq, z_in, pk_mul, zu_same, zu_rw, zu_ix, zi_ne0, zi_sub, zi_m1, Nat.add_sub_cancel, Nat.reduceMul, Nat.reduceSub]
      exact hVQ _ _ ⟨S, rfl, Or.inl ⟨Or.inr (by rw [nI_clamp (by omega)]; exact hHm), rfl, mDo.of (mE.rf hZ) hN hU0⟩⟩
    | some R =>
      rw [hHm] at h49
      have h49 : S (b + 49) m = nI 1 := h49
      have hR := h48 m R hHm
      have loop : ∀ y, y ≤ 48 → ∀ S', zfr [36] [60] b S S' → (∀ j, S' (b + 36) j = if j < y then R j else S (b + 36) j) → zW V YX10_restore 22 [some (.ref b), some (.int (nI m)), some (.int (nI y))] [] (z, h, S', L) 0 0 := by
        refine z_down ?_ (fun y hy ih => ?_)
        · intro S' hf hj
          refine sX10_restore_22 _ _ _ _ _ ?_
          simp (disch := omega) only [oAld, oAld1, oAst1, oBin, oGR, oIfc, oIld, oInc, oNop, oPI, oPush, oRZ, hM.1, hM.r53, hM.t53, hM.n53, hM.r71, hM.t71, hM.n71, List.getElem?_cons_zero, List.getElem?_cons_succ, List.set_cons_zero, List.set_cons_succ, List.drop_succ_cons, List.drop_zero, List.take_succ_cons, List.take_zero, List.length_cons, List.length_nil, List.reverse_cons, List.reverse_nil, List.nil_append, List.cons_append, Option.toList_some, Option.toList_none, va_rf_s, true_and, and_true, true_implies, false_implies, not_true_eq_false, not_false_eq_true, Nat.reduceAdd, Nat.reduceLeDiff, Nat.le_add_left, Nat.zero_le, Nat.le_refl, znew, true_or, or_true, b01_t, b01_f, b01_ok, bool_ft, vp_b01, vp_b0, vp_b1, b01_eq0, b01_eq1, implies_true, nI_add, nI_clamp, zi_in, zi_le_t, zi_le_f, zi_lt_t, zi_lt_f, zi_eq_t, zi_eq_f, nI_leI, nI_ltI, nI_eq, z_in, pk_mul, zu_same, zu_rw, zu_ix, zi_ne0, zi_sub, zi_m1, Nat.add_sub_cancel, Nat.reduceMul, Nat.reduceSub]
          have hf' : zfr [36] [60] b S (zu S' b 60 (nI 0)) := hf.fld (by decide)
          have h36 : S' (b + 36) = R := by
            funext j
            rw [hj]
            by_cases hj2 : j < 48
            · rw [if_pos hj2]
            · rw [if_neg hj2, hZ.1 j (by omega), hR j (by omega)]
          refine hVQ _ _ ⟨_, rfl, Or.inr ⟨R, hok, by rw [nI_clamp (by omega)]; exact hHm, rfl, hf'.tr zfr.rf rfl rfl (D' := []) (F' := []) rfl rfl, ⟨fun j hj => by rw [zu_rw _ _ (by omega), h36]; exact hR j hj, fun j hj => by rw [hf'.at (o := 37) rfl rfl]; exact hZ.2 j hj⟩, by rw [zu_rw _ _ (by omega)]; exact h36, by rw [zu_same]; rfl, by simp, fun i hi k hk => absurd hi (by simp)⟩⟩
        · intro S' hf hj
          have hv := h50 R hHm y hy
          refine sX10_restore_22 _ _ _ _ _ ?_
          simp (disch := omega) only [oAld, oAld1, oAst1, oBin, oGR, oIfc, oIld, oInc, oNop, oPI, oPush, oRZ, hM.1, hM.r53, hM.t53, hM.n53, hM.r71, hM.t71, hM.n71, hf.at (o := 50) rfl rfl, hv, List.getElem?_cons_zero, List.getElem?_cons_succ, List.set_cons_zero, List.set_cons_succ, List.drop_succ_cons, List.drop_zero, List.take_succ_cons, List.take_zero, List.length_cons, List.length_nil, List.reverse_cons, List.reverse_nil, List.nil_append, List.cons_append, Option.toList_some, Option.toList_none, va_rf_s, true_and, and_true, true_implies, false_implies, not_true_eq_false, not_false_eq_true, Nat.reduceAdd, Nat.reduceLeDiff, Nat.le_add_left, Nat.zero_le, Nat.le_refl, znew, true_or, or_true, b01_t, b01_f, b01_ok, bool_ft, vp_b01, vp_b0, vp_b1, b01_eq0, b01_eq1, implies_true, nI_add, nI_clamp, zi_in, zi_le_t, zi_le_f, zi_lt_t, zi_lt_f, zi_eq_t, zi_eq_f, nI_leI, nI_ltI, nI_eq, z_in, pk_mul, zu_same, zu_rw, zu_ix, zi_ne0, zi_sub, zi_m1, Nat.add_sub_cancel, Nat.reduceMul, Nat.reduceSub]
          refine ih _ (hf.row (by decide) (by decide)) (fun j => ?_)
          by_cases hjy : j = y
          · subst hjy; rw [zu_same, if_pos (by omega)]
          · rw [zu_ix _ _ hjy, hj]
            by_cases hlt : j < y
            · rw [if_pos hlt, if_pos (by omega)]
            · rw [if_neg hlt, if_neg (by omega)]
      refine sX10_restore_6 _ _ _ _ _ ?_
      simp (disch := omega) only [oAld, oAld1, oGR, oIf, oIld, oIst, oPush, oRZ, hM.1, hM.r70, hM.t70, hM.n70, h49, List.getElem?_cons_zero, List.getElem?_cons_succ, List.set_cons_zero, List.set_cons_succ, List.drop_succ_cons, List.drop_zero, List.take_succ_cons, List.take_zero, List.length_cons, List.length_nil, List.reverse_cons, List.reverse_nil, List.nil_append, List.cons_append, Option.toList_some, Option.toList_none, va_rf_s, true_and, and_true, true_implies, false_implies, not_true_eq_false, not_false_eq_true, Nat.reduceAdd, Nat.reduceLeDiff, Nat.le_add_left, Nat.zero_le, Nat.le_refl, znew, true_or, or_true, b01_t, b01_f, b01_ok, bool_ft, vp_b01, vp_b0, vp_b1, b01_eq0, b01_eq1, implies_true, nI_add, nI_clamp, zi_in, zi_le_t, zi_le_f, zi_lt_t, zi_lt_f, zi_eq_t, zi_eq_f, nI_leI, nI_ltI, nI_eq, z_in, pk_mul, zu_same, zu_rw, zu_ix, zi_ne0, zi_sub, zi_m1, Nat.add_sub_cancel, Nat.reduceMul, Nat.reduceSub]
      exact loop 0 (by omega) _ zfr.rf (fun j => by rw [if_neg (by omega)])
theorem zX10_tell (hM : isM h b) (hX : mX b S lv t) (hN : S (b + 36) = T) (hK : mK b S K) (y v : Int32) (so : Bool) :
    zM l E 3 YX10_tell [.ref b, .int y, .int v, .int (b01 so)] (z, h, S, L) 0 0 (fun r X => ∃ S', X = (z, h, S', L) ∧ zfr [46, 47, 48] [66] b S S' ∧ ((¬ (K.length < 20 ∧ outB t T y = true ∧ okI v 1000 = true) ∧ r = some (.int (-1)) ∧ mK b S' K) ∨ ((K.length < 20 ∧ outB t T y = true ∧ okI v 1000 = true) ∧ r = some (.int (nI K.length)) ∧ mK b S' (K ++ [(y.toNatClampNeg, v.toNatClampNeg, so)])))) (fun _ _ => False) := by
  refine zM.go rfl rfl (Nat.le_of_ble_eq_true rfl) (ls := [some (.ref b), some (.int y), some (.int v), some (.int (b01 so))]) rfl ?_
  intro V hVl hVE hVd hVc hVs hVQ hVX
  obtain ⟨hk, hk20, hi⟩ := id hK
  have hny6 : tny t ≤ 6 := hX.1.2.2.2.1.2
  have no : ¬ (K.length < 20 ∧ outB t T y = true ∧ okI v 1000 = true) → V.2.2.2.2.2.1 (some (.int (-1))) (z, h, S, L) := fun hn => hVQ _ _ ⟨S, rfl, zfr.rf, Or.inl ⟨hn, rfl, hK⟩⟩
  by_cases h20 : K.length = 20
  · rw [h20] at hk
    refine sX10_tell_0 _ _ _ _ _ ?_
    simp (disch := omega) only [oAld, oCV, oGI, oIfc, oIld, oPush, oRI, hM.1, hk, List.getElem?_cons_zero, List.getElem?_cons_succ, List.set_cons_zero, List.set_cons_succ, List.drop_succ_cons, List.drop_zero, List.take_succ_cons, List.take_zero, List.length_cons, List.length_nil, List.reverse_cons, List.reverse_nil, List.nil_append, List.cons_append, Option.toList_some, Option.toList_none, va_rf_s, true_and, and_true, true_implies, false_implies, not_true_eq_false, not_false_eq_true, Nat.reduceAdd, Nat.reduceLeDiff, Nat.le_add_left, Nat.zero_le, Nat.le_refl, znew, true_or, or_true, b01_t, b01_f, b01_ok, bool_ft, vp_b01, vp_b0, vp_b1, b01_eq0, b01_eq1, implies_true, nI_add, nI_clamp, zi_in, zi_le_t, zi_le_f, zi_lt_t, zi_lt_f, zi_eq_t, zi_eq_f, nI_leI, nI_ltI, nI_eq, z_in, pk_mul, zu_same, zu_rw, zu_ix, zi_ne0, zi_sub, zi_m1, Nat.add_sub_cancel, Nat.reduceMul, Nat.reduceSub]
    exact no (fun q => by omega)
  refine sX10_tell_0 _ _ _ _ _ ?_
  simp (disch := omega) only [oAld, oCV, oGI, oIfc, oIld, oPush, oRI, hM.1, hk, List.getElem?_cons_zero, List.getElem?_cons_succ, List.set_cons_zero, List.set_cons_succ, List.drop_succ_cons, List.drop_zero, List.take_succ_cons, List.take_zero, List.length_cons, List.length_nil, List.reverse_cons, List.reverse_nil, List.nil_append, List.cons_append, Option.toList_some, Option.toList_none, va_rf_s, true_and, and_true, true_implies, false_implies, not_true_eq_false, not_false_eq_true, Nat.reduceAdd, Nat.reduceLeDiff, Nat.le_add_left, Nat.zero_le, Nat.le_refl, znew, true_or, or_true, b01_t, b01_f, b01_ok, bool_ft, vp_b01, vp_b0, vp_b1, b01_eq0, b01_eq1, implies_true, nI_add, nI_clamp, zi_in, zi_le_t, zi_le_f, zi_lt_t, zi_lt_f, zi_eq_t, zi_eq_f, nI_leI, nI_ltI, nI_eq, z_in, pk_mul, zu_same, zu_rw, zu_ix, zi_ne0, zi_sub, zi_m1, Nat.add_sub_cancel, Nat.reduceMul, Nat.reduceSub]
  refine zC.of0 (zX10_isOut hM hX.1 _) (by omega) (Nat.zero_le _) (Nat.zero_le _) ?_
  rintro _ _ ⟨rfl, rfl⟩
  rw [hN]
  refine sX10_tell_14 _ _ _ _ _ ?_
  simp (disch := omega) only [oCS, oIf, oIld, oPush, oRI, List.getElem?_cons_zero, List.getElem?_cons_succ, List.set_cons_zero, List.set_cons_succ, List.drop_succ_cons, List.drop_zero, List.take_succ_cons, List.take_zero, List.length_cons, List.length_nil, List.reverse_cons, List.reverse_nil, List.nil_append, List.cons_append, Option.toList_some, Option.toList_none, va_rf_s, true_and, and_true, true_implies, false_implies, not_true_eq_false, not_false_eq_true, Nat.reduceAdd, Nat.reduceLeDiff, Nat.le_add_left, Nat.zero_le, Nat.le_refl, znew, true_or, or_true, b01_t, b01_f, b01_ok, bool_ft, vp_b01, vp_b0, vp_b1, b01_eq0, b01_eq1, implies_true, nI_add, nI_clamp, zi_in, zi_le_t, zi_le_f, zi_lt_t, zi_lt_f, zi_eq_t, zi_eq_f, nI_leI, nI_ltI, nI_eq, z_in, pk_mul, zu_same, zu_rw, zu_ix, zi_ne0, zi_sub, zi_m1, Nat.add_sub_cancel, Nat.reduceMul, Nat.reduceSub]
  refine ⟨fun hok => no (fun q => ?_), fun hok => ?_⟩
  · have := q.2.1; unfold outB at this; rw [this] at hok; cases hok
  have hok : outB t T y = true := by unfold outB; simpa using hok
  obtain ⟨j, hj, rfl, h12⟩ := (outB_iff hny6).mp hok
  refine zC.of0 (zX10_in _ _ _ _) (by omega) (Nat.zero_le _) (Nat.zero_le _) ?_
  rintro _ _ ⟨rfl, rfl⟩
  rw [okI_dec2 (by omega)]
  cases hov : okI v (999 + 1) with
  | false =>
    refine sX10_tell_25 _ _ _ _ _ ?_
    simp (disch := omega) only [oAld, oAst1, oBin, oDup, oGI, oGR, oIf, oIld, oPI, oPush, oRI, hM.1, hM.r67, hM.t67, hM.n67, hM.r68, hM.t68, hM.n68, hM.r69, hM.t69, hM.n69, List.getElem?_cons_zero, List.getElem?_cons_succ, List.set_cons_zero, List.set_cons_succ, List.drop_succ_cons, List.drop_zero, List.take_succ_cons, List.take_zero, List.length_cons, List.length_nil, List.reverse_cons, List.reverse_nil, List.nil_append, List.cons_append, Option.toList_some, Option.toList_none, va_rf_s, true_and, and_true, true_implies, false_implies, not_true_eq_false, not_false_eq_true, Nat.reduceAdd, Nat.reduceLeDiff, Nat.le_add_left, Nat.zero_le, Nat.le_refl, znew, true_or, or_true, b01_t, b01_f, b01_ok, bool_ft, vp_b01, vp_b0, vp_b1, b01_eq0, b01_eq1, implies_true, nI_add, nI_clamp, zi_in, zi_le_t, zi_le_f, zi_lt_t, zi_lt_f, zi_eq_t, zi_eq_f, nI_leI, nI_ltI, nI_eq, z_in, pk_mul, zu_same, zu_rw, zu_ix, zi_ne0, zi_sub, zi_m1, Nat.add_sub_cancel, Nat.reduceMul, Nat.reduceSub]
    exact no (fun q => by rw [q.2.2] at hov; cases hov)
  | true =>
    obtain ⟨m, hm, rfl⟩ := (okI_iff (by omega)).mp hov
    refine sX10_tell_25 _ _ _ _ _ ?_
    simp (disch := omega) only [oAld, oAst1, oBin, oDup, oGI, oGR, oIf, oIld, oPI, oPush, oRI, hM.1, hM.r67, hM.t67, hM.n67, hM.r68, hM.t68, hM.n68, hM.r69, hM.t69, hM.n69, hk, List.getElem?_cons_zero, List.getElem?_cons_succ, List.set_cons_zero, List.set_cons_succ, List.drop_succ_cons, List.drop_zero, List.take_succ_cons, List.take_zero, List.length_cons, List.length_nil, List.reverse_cons, List.reverse_nil, List.nil_append, List.cons_append, Option.toList_some, Option.toList_none, va_rf_s, true_and, and_true, true_implies, false_implies, not_true_eq_false, not_false_eq_true, Nat.reduceAdd, Nat.reduceLeDiff, Nat.le_add_left, Nat.zero_le, Nat.le_refl, znew, true_or, or_true, b01_t, b01_f, b01_ok, bool_ft, vp_b01, vp_b0, vp_b1, b01_eq0, b01_eq1, implies_true, nI_add, nI_clamp, zi_in, zi_le_t, zi_le_f, zi_lt_t, zi_lt_f, zi_eq_t, zi_eq_f, nI_leI, nI_ltI, nI_eq, z_in, pk_mul, zu_same, zu_rw, zu_ix, zi_ne0, zi_sub, zi_m1, Nat.add_sub_cancel, Nat.reduceMul, Nat.reduceSub]
    refine hVQ _ _ ⟨_, rfl, ((((zfr.rf.row (by decide) (by decide)).row (by decide) (by decide)).row (by decide) (by decide)).fld (by decide)), Or.inr ⟨⟨by omega, hok, hov⟩, rfl, ?_, ?_, ?_⟩⟩
    · rw [zu_same]; simp
    · simp; omega
    · intro i hi2
      rw [getD_snoc, nI_clamp (by omega), nI_clamp (by omega)]
      simp only [List.length_append, List.length_cons, List.length_nil] at hi2
      by_cases he : i = K.length
      · subst he
        simp (disch := omega) only [List.getElem?_cons_zero, List.getElem?_cons_succ, List.set_cons_zero, List.set_cons_succ, List.drop_succ_cons, List.drop_zero, List.take_succ_cons, List.take_zero, List.length_cons, List.length_nil, List.reverse_cons, List.reverse_nil, List.nil_append, List.cons_append, Option.toList_some, Option.toList_none, va_rf_s, true_and, and_true, true_implies, false_implies, not_true_eq_false, not_false_eq_true, Nat.reduceAdd, Nat.reduceLeDiff, Nat.le_add_left, Nat.zero_le, Nat.le_refl, znew, true_or, or_true, b01_t, b01_f, b01_ok, bool_ft, vp_b01, vp_b0, vp_b1, b01_eq0, b01_eq1, implies_true, nI_add, nI_clamp, zi_in, zi_le_t, zi_le_f, zi_lt_t, zi_lt_f, zi_eq_t, zi_eq_f, nI_leI, nI_ltI, nI_eq, z_in, pk_mul, zu_same, zu_rw, zu_ix, zi_ne0, zi_sub, zi_m1, Nat.add_sub_cancel, Nat.reduceMul, Nat.reduceSub, if_true]
      · obtain ⟨q1, q2, q3⟩ := hi i (by omega)
        rw [if_neg he, if_pos (by omega)]
        refine ⟨?_, ?_, ?_⟩
        · simp (disch := omega) only [List.getElem?_cons_zero, List.getElem?_cons_succ, List.set_cons_zero, List.set_cons_succ, List.drop_succ_cons, List.drop_zero, List.take_succ_cons, List.take_zero, List.length_cons, List.length_nil, List.reverse_cons, List.reverse_nil, List.nil_append, List.cons_append, Option.toList_some, Option.toList_none, va_rf_s, true_and, and_true, true_implies, false_implies, not_true_eq_false, not_false_eq_true, Nat.reduceAdd, Nat.reduceLeDiff, Nat.le_add_left, Nat.zero_le, Nat.le_refl, znew, true_or, or_true, b01_t, b01_f, b01_ok, bool_ft, vp_b01, vp_b0, vp_b1, b01_eq0, b01_eq1, implies_true, nI_add, nI_clamp, zi_in, zi_le_t, zi_le_f, zi_lt_t, zi_lt_f, zi_eq_t, zi_eq_f, nI_leI, nI_ltI, nI_eq, z_in, pk_mul, zu_same, zu_rw, zu_ix, zi_ne0, zi_sub, zi_m1, Nat.add_sub_cancel, Nat.reduceMul, Nat.reduceSub, q1]
        · simp (disch := omega) only [List.getElem?_cons_zero, List.getElem?_cons_succ, List.set_cons_zero, List.set_cons_succ, List.drop_succ_cons, List.drop_zero, List.take_succ_cons, List.take_zero, List.length_cons, List.length_nil, List.reverse_cons, List.reverse_nil, List.nil_append, List.cons_append, Option.toList_some, Option.toList_none, va_rf_s, true_and, and_true, true_implies, false_implies, not_true_eq_false, not_false_eq_true, Nat.reduceAdd, Nat.reduceLeDiff, Nat.le_add_left, Nat.zero_le, Nat.le_refl, znew, true_or, or_true, b01_t, b01_f, b01_ok, bool_ft, vp_b01, vp_b0, vp_b1, b01_eq0, b01_eq1, implies_true, nI_add, nI_clamp, zi_in, zi_le_t, zi_le_f, zi_lt_t, zi_lt_f, zi_eq_t, zi_eq_f, nI_leI, nI_ltI, nI_eq, z_in, pk_mul, zu_same, zu_rw, zu_ix, zi_ne0, zi_sub, zi_m1, Nat.add_sub_cancel, Nat.reduceMul, Nat.reduceSub, q2]
        · simp (disch := omega) only [List.getElem?_cons_zero, List.getElem?_cons_succ, List.set_cons_zero, List.set_cons_succ, List.drop_succ_cons, List.drop_zero, List.take_succ_cons, List.take_zero, List.length_cons, List.length_nil, List.reverse_cons, List.reverse_nil, List.nil_append, List.cons_append, Option.toList_some, Option.toList_none, va_rf_s, true_and, and_true, true_implies, false_implies, not_true_eq_false, not_false_eq_true, Nat.reduceAdd, Nat.reduceLeDiff, Nat.le_add_left, Nat.zero_le, Nat.le_refl, znew, true_or, or_true, b01_t, b01_f, b01_ok, bool_ft, vp_b01, vp_b0, vp_b1, b01_eq0, b01_eq1, implies_true, nI_add, nI_clamp, zi_in, zi_le_t, zi_le_f, zi_lt_t, zi_lt_f, zi_eq_t, zi_eq_f, nI_leI, nI_ltI, nI_eq, z_in, pk_mul, zu_same, zu_rw, zu_ix, zi_ne0, zi_sub, zi_m1, Nat.add_sub_cancel, Nat.reduceMul, Nat.reduceSub, q3]
theorem zX10_forget (hM : isM h b) (hK : mK b S K) :
    zM l E 0 YX10_forget [.ref b] (z, h, S, L) 0 0 (fun r X => ∃ S', X = (z, h, S', L) ∧ zfr [] [66] b S S' ∧ r = some (.int (nI K.length)) ∧ mK b S' []) (fun _ _ => False) := by
  refine zM.go rfl rfl (Nat.le_of_ble_eq_true rfl) (ls := [some (.ref b), none]) rfl ?_
  intro V hVl hVE hVd hVc hVs hVQ hVX
  refine sX10_forget_0 _ _ _ _ _ ?_
  simp (disch := omega) only [oAld, oGI, oIld, oIst, oPI, oPush, oRI, hM.1, hK.1, List.getElem?_cons_zero, List.getElem?_cons_succ, List.set_cons_zero, List.set_cons_succ, List.drop_succ_cons, List.drop_zero, List.take_succ_cons, List.take_zero, List.length_cons, List.length_nil, List.reverse_cons, List.reverse_nil, List.nil_append, List.cons_append, Option.toList_some, Option.toList_none, va_rf_s, true_and, and_true, true_implies, false_implies, not_true_eq_false, not_false_eq_true, Nat.reduceAdd, Nat.reduceLeDiff, Nat.le_add_left, Nat.zero_le, Nat.le_refl, znew, true_or, or_true, b01_t, b01_f, b01_ok, bool_ft, vp_b01, vp_b0, vp_b1, b01_eq0, b01_eq1, implies_true, nI_add, nI_clamp, zi_in, zi_le_t, zi_le_f, zi_lt_t, zi_lt_f, zi_eq_t, zi_eq_f, nI_leI, nI_ltI, nI_eq, z_in, pk_mul, zu_same, zu_rw, zu_ix, zi_ne0, zi_sub, zi_m1, Nat.add_sub_cancel, Nat.reduceMul, Nat.reduceSub]
  exact hVQ _ _ ⟨_, rfl, zfr.rf.fld (by decide), rfl, by rw [zu_same]; rfl, by simp, fun i hi => absurd hi (by simp)⟩
theorem zX10_place (hM : isM h b) :
    zM l E 0 YX10_place [.ref b] (z, h, S, L) 0 0 (fun r X => r = some (.int (S b 17)) ∧ X = (z, h, S, L)) (fun _ _ => False) := by
  refine zM.go rfl rfl (Nat.le_of_ble_eq_true rfl) (ls := [some (.ref b)]) rfl ?_
  intro V hVl hVE hVd hVc hVs hVQ hVX
  refine sX10_place_0 _ _ _ _ _ ?_
  simp (disch := omega) only [oAld, oGI, oRI, hM.1, List.getElem?_cons_zero, List.getElem?_cons_succ, List.set_cons_zero, List.set_cons_succ, List.drop_succ_cons, List.drop_zero, List.take_succ_cons, List.take_zero, List.length_cons, List.length_nil, List.reverse_cons, List.reverse_nil, List.nil_append, List.cons_append, Option.toList_some, Option.toList_none, va_rf_s, true_and, and_true, true_implies, false_implies, not_true_eq_false, not_false_eq_true, Nat.reduceAdd, Nat.reduceLeDiff, Nat.le_add_left, Nat.zero_le, Nat.le_refl, znew, true_or, or_true, b01_t, b01_f, b01_ok, bool_ft, vp_b01, vp_b0, vp_b1, b01_eq0, b01_eq1, implies_true, nI_add, nI_clamp, zi_in, zi_le_t, zi_le_f, zi_lt_t, zi_lt_f, zi_eq_t, zi_eq_f, nI_leI, nI_ltI, nI_eq, z_in, pk_mul, zu_same, zu_rw, zu_ix, zi_ne0, zi_sub, zi_m1, Nat.add_sub_cancel, Nat.reduceMul, Nat.reduceSub]
  exact hVQ _ _ ⟨rfl, rfl⟩
theorem zX10_back (hM : isM h b) (hP : mP b S P) (n : Int32) :
    zM l E 0 YX10_back [.ref b, .int n] (z, h, S, L) 0 0 (fun r X => ∃ S', X = (z, h, S', L) ∧ zfr [] [2] b S S' ∧ ((okI n (P.length + 1) = false ∧ r = some (.int (-1)) ∧ mP b S' P) ∨ (okI n (P.length + 1) = true ∧ r = some (.int (nI (P.length - n.toNatClampNeg))) ∧ mP b S' (P.take (P.length - n.toNatClampNeg))))) (fun _ _ => False) := by
  refine zM.go rfl rfl (Nat.le_of_ble_eq_true rfl) (ls := [some (.ref b), some (.int n)]) rfl ?_
  intro V hVl hVE hVd hVc hVs hVQ hVX
  obtain ⟨h2, hl, hi⟩ := id hP
  have hd := okI_dec2 (c := n) (m := P.length) (by omega)
  cases hok : okI n (P.length + 1) with
  | false =>
    rw [hok, decide_eq_false_iff_not] at hd
    refine sX10_back_0 _ _ _ _ _ ?_
    simp (disch := omega) only [oAld, oBin, oDup, oGI, oIf, oIfc, oIld, oPI, oPush, oRI, hM.1, h2, List.getElem?_cons_zero, List.getElem?_cons_succ, List.set_cons_zero, List.set_cons_succ, List.drop_succ_cons, List.drop_zero, List.take_succ_cons, List.take_zero, List.length_cons, List.length_nil, List.reverse_cons, List.reverse_nil, List.nil_append, List.cons_append, Option.toList_some, Option.toList_none, va_rf_s, true_and, and_true, true_implies, false_implies, not_true_eq_false, not_false_eq_true, Nat.reduceAdd, Nat.reduceLeDiff, Nat.le_add_left, Nat.zero_le, Nat.le_refl, znew, true_or, or_true, b01_t, b01_f, b01_ok, bool_ft, vp_b01, vp_b0, vp_b1, b01_eq0, b01_eq1, implies_true, nI_add, nI_clamp, zi_in, zi_le_t, zi_le_f, zi_lt_t, zi_lt_f, zi_eq_t, zi_eq_f, nI_leI, nI_ltI, nI_eq, z_in, pk_mul, zu_same, zu_rw, zu_ix, zi_ne0, zi_sub, zi_m1, Nat.add_sub_cancel, Nat.reduceMul, Nat.reduceSub]
    have fin := hVQ (some (.int (-1))) (z, h, S, L) ⟨S, rfl, zfr.rf, Or.inl ⟨hok, rfl, hP⟩⟩
    refine ⟨fun _ => fin, fun q1 => ⟨fun q2 => absurd ⟨?_, q2⟩ hd, fun _ => fin⟩⟩
    rw [Int32.lt_iff_toInt_lt] at q1
    rw [Int32.le_iff_toInt_le]; omega
  | true =>
    obtain ⟨m, hm, rfl⟩ := (okI_iff (by omega)).mp hok
    refine sX10_back_0 _ _ _ _ _ ?_
    simp (disch := omega) only [oAld, oBin, oDup, oGI, oIf, oIfc, oIld, oPI, oPush, oRI, hM.1, h2, List.getElem?_cons_zero, List.getElem?_cons_succ, List.set_cons_zero, List.set_cons_succ, List.drop_succ_cons, List.drop_zero, List.take_succ_cons, List.take_zero, List.length_cons, List.length_nil, List.reverse_cons, List.reverse_nil, List.nil_append, List.cons_append, Option.toList_some, Option.toList_none, va_rf_s, true_and, and_true, true_implies, false_implies, not_true_eq_false, not_false_eq_true, Nat.reduceAdd, Nat.reduceLeDiff, Nat.le_add_left, Nat.zero_le, Nat.le_refl, znew, true_or, or_true, b01_t, b01_f, b01_ok, bool_ft, vp_b01, vp_b0, vp_b1, b01_eq0, b01_eq1, implies_true, nI_add, nI_clamp, zi_in, zi_le_t, zi_le_f, zi_lt_t, zi_lt_f, zi_eq_t, zi_eq_f, nI_leI, nI_ltI, nI_eq, z_in, pk_mul, zu_same, zu_rw, zu_ix, zi_ne0, zi_sub, zi_m1, Nat.add_sub_cancel, Nat.reduceMul, Nat.reduceSub]
    refine hVQ _ _ ⟨_, rfl, zfr.rf.fld (by decide), Or.inr ⟨hok, by rw [nI_clamp (by omega)], ?_, ?_, fun i hi2 => ?_⟩⟩
    · rw [zu_same, nI_clamp (by omega)]; simp
    · simp; omega
    · rw [nI_clamp (by omega)] at hi2 ⊢
      simp only [List.length_take] at hi2
      rw [zu_rw _ _ (by omega), hi i (by omega)]
      simp only [List.getD_eq_getElem?_getD, List.getElem?_take]
      rw [if_pos (by omega)]
theorem zX10_put (hM : isM h b) (hP : mP b S P) (hl : P.length + 4 ≤ 2000) (w : Int32) :
    zM l E 0 YX10_put [.ref b, .int w] (z, h, S, L) 0 0 (fun r X => r = none ∧ ∃ S', X = (z, h, S', L) ∧ zfr [1] [2] b S S' ∧ mP b S' (P ++ put4 w)) (fun _ _ => False) := by
  refine zM.go rfl rfl (Nat.le_of_ble_eq_true rfl) (ls := [some (.ref b), some (.int w), none]) rfl ?_
  intro V hVl hVE hVd hVc hVs hVQ hVX
  have loop : ∀ k P', P'.length < 2000 → ∀ S', zfr [1] [2] b S S' → mP b S' P' → (∀ S'', zfr [1] [2] b S S'' → mP b S'' (P' ++ [bF w k]) → zW V YX10_put 3 [some (.ref b), some (.int w), some (.int (nI k + (-8)))] [] (z, h, S'', L) 0 0) → k < 32 → zW V YX10_put 3 [some (.ref b), some (.int w), some (.int (nI k))] [] (z, h, S', L) 0 0 := by
    intro k P' hl' S' hf hP' hn hk
    refine sX10_put_3 _ _ _ _ _ ?_
    simp (disch := omega) only [oAld, oAst1, oBin, oDup, oGI, oGR, oIf, oIld, oInc, oNop, oPI, oPush, oRV, oUn, hM.1, hM.r1, hM.t1, hM.n1, hP'.1, vp_nar_byte, i8_i8, List.getElem?_cons_zero, List.getElem?_cons_succ, List.set_cons_zero, List.set_cons_succ, List.drop_succ_cons, List.drop_zero, List.take_succ_cons, List.take_zero, List.length_cons, List.length_nil, List.reverse_cons, List.reverse_nil, List.nil_append, List.cons_append, Option.toList_some, Option.toList_none, va_rf_s, true_and, and_true, true_implies, false_implies, not_true_eq_false, not_false_eq_true, Nat.reduceAdd, Nat.reduceLeDiff, Nat.le_add_left, Nat.zero_le, Nat.le_refl, znew, true_or, or_true, b01_t, b01_f, b01_ok, bool_ft, vp_b01, vp_b0, vp_b1, b01_eq0, b01_eq1, implies_true, nI_add, nI_clamp, zi_in, zi_le_t, zi_le_f, zi_lt_t, zi_lt_f, zi_eq_t, zi_eq_f, nI_leI, nI_ltI, nI_eq, z_in, pk_mul, zu_same, zu_rw, zu_ix, zi_ne0, zi_sub, zi_m1, Nat.add_sub_cancel, Nat.reduceMul, Nat.reduceSub]
    exact hn _ ((hf.row (by decide) (by decide)).fld (by decide)) (hP'.add _ hl')
  refine sX10_put_0 _ _ _ _ _ ?_
  simp (disch := omega) only [oIst, oPush, List.getElem?_cons_zero, List.getElem?_cons_succ, List.set_cons_zero, List.set_cons_succ, List.drop_succ_cons, List.drop_zero, List.take_succ_cons, List.take_zero, List.length_cons, List.length_nil, List.reverse_cons, List.reverse_nil, List.nil_append, List.cons_append, Option.toList_some, Option.toList_none, va_rf_s, true_and, and_true, true_implies, false_implies, not_true_eq_false, not_false_eq_true, Nat.reduceAdd, Nat.reduceLeDiff, Nat.le_add_left, Nat.zero_le, Nat.le_refl, znew, true_or, or_true, b01_t, b01_f, b01_ok, bool_ft, vp_b01, vp_b0, vp_b1, b01_eq0, b01_eq1, implies_true, nI_add, nI_clamp, zi_in, zi_le_t, zi_le_f, zi_lt_t, zi_lt_f, zi_eq_t, zi_eq_f, nI_leI, nI_ltI, nI_eq, z_in, pk_mul, zu_same, zu_rw, zu_ix, zi_ne0, zi_sub, zi_m1, Nat.add_sub_cancel, Nat.reduceMul, Nat.reduceSub]
  refine loop 24 P (by omega) S zfr.rf hP (fun S1 hf1 hP1 => ?_) (by omega)
  refine loop 16 _ (by simp; omega) S1 hf1 hP1 (fun S2 hf2 hP2 => ?_) (by omega)
  refine loop 8 _ (by simp; omega) S2 hf2 hP2 (fun S3 hf3 hP3 => ?_) (by omega)
  refine loop 0 _ (by simp; omega) S3 hf3 hP3 (fun S4 hf4 hP4 => ?_) (by omega)
  have h8 : (nI 0 + (-8) < nI 0) = True := eq_true (by decide)
  refine sX10_put_3 _ _ _ _ _ ?_
  simp (disch := omega) only [oAld, oAst1, oBin, oDup, oGI, oGR, oIf, oIld, oInc, oNop, oPI, oPush, oRV, oUn, hM.1, hM.r1, hM.t1, hM.n1, h8, List.getElem?_cons_zero, List.getElem?_cons_succ, List.set_cons_zero, List.set_cons_succ, List.drop_succ_cons, List.drop_zero, List.take_succ_cons, List.take_zero, List.length_cons, List.length_nil, List.reverse_cons, List.reverse_nil, List.nil_append, List.cons_append, Option.toList_some, Option.toList_none, va_rf_s, true_and, and_true, true_implies, false_implies, not_true_eq_false, not_false_eq_true, Nat.reduceAdd, Nat.reduceLeDiff, Nat.le_add_left, Nat.zero_le, Nat.le_refl, znew, true_or, or_true, b01_t, b01_f, b01_ok, bool_ft, vp_b01, vp_b0, vp_b1, b01_eq0, b01_eq1, implies_true, nI_add, nI_clamp, zi_in, zi_le_t, zi_le_f, zi_lt_t, zi_lt_f, zi_eq_t, zi_eq_f, nI_leI, nI_ltI, nI_eq, z_in, pk_mul, zu_same, zu_rw, zu_ix, zi_ne0, zi_sub, zi_m1, Nat.add_sub_cancel, Nat.reduceMul, Nat.reduceSub]
  refine hVQ _ _ ⟨rfl, S4, rfl, hf4, ?_⟩
  have : P ++ put4 w = P ++ [bF w 24] ++ [bF w 16] ++ [bF w 8] ++ [bF w 0] := by simp [put4]
  rw [this]; exact hP4
theorem zX10_feed (hM : isM h b) (hP : mP b S P) (c1 c2 c3 c4 c5 : Int32) :
    zM l E 1 YX10_feed [.ref b, .int c1, .int c2, .int c3, .int c4, .int c5] (z, h, S, L) 0 0 (fun r X => ∃ S', X = (z, h, S', L) ∧ zfr [1] [2] b S S' ∧ ((P.length + 20 ≤ 2000 ∧ r = some (.int (nI (P.length + 20))) ∧ mP b S' (P ++ (put4 c1 ++ put4 c2 ++ put4 c3 ++ put4 c4 ++ put4 c5))) ∨ (¬ P.length + 20 ≤ 2000 ∧ r = some (.int (-1)) ∧ mP b S' P))) (fun _ _ => False) := by
  refine zM.go rfl rfl (Nat.le_of_ble_eq_true rfl) (ls := [some (.ref b), some (.int c1), some (.int c2), some (.int c3), some (.int c4), some (.int c5)]) rfl ?_
  intro V hVl hVE hVd hVc hVs hVQ hVX
  obtain ⟨h2, hl, hi⟩ := id hP
  have l4 : ∀ w, (put4 w).length = 4 := fun _ => rfl
  by_cases hle : P.length + 20 ≤ 2000
  · refine sX10_feed_0 _ _ _ _ _ ?_
    simp (disch := omega) only [oAld, oBin, oCV, oGI, oIfc, oIld, oPush, oRI, hM.1, h2, List.getElem?_cons_zero, List.getElem?_cons_succ, List.set_cons_zero, List.set_cons_succ, List.drop_succ_cons, List.drop_zero, List.take_succ_cons, List.take_zero, List.length_cons, List.length_nil, List.reverse_cons, List.reverse_nil, List.nil_append, List.cons_append, Option.toList_some, Option.toList_none, va_rf_s, true_and, and_true, true_implies, false_implies, not_true_eq_false, not_false_eq_true, Nat.reduceAdd, Nat.reduceLeDiff, Nat.le_add_left, Nat.zero_le, Nat.le_refl, znew, true_or, or_true, b01_t, b01_f, b01_ok, bool_ft, vp_b01, vp_b0, vp_b1, b01_eq0, b01_eq1, implies_true, nI_add, nI_clamp, zi_in, zi_le_t, zi_le_f, zi_lt_t, zi_lt_f, zi_eq_t, zi_eq_f, nI_leI, nI_ltI, nI_eq, z_in, pk_mul, zu_same, zu_rw, zu_ix, zi_ne0, zi_sub, zi_m1, Nat.add_sub_cancel, Nat.reduceMul, Nat.reduceSub]
    refine zC.of0 (zX10_put hM hP (by omega) _) (by omega) (Nat.zero_le _) (Nat.zero_le _) ?_
    rintro _ _ ⟨rfl, S1, rfl, hf1, hP1⟩
    refine sX10_feed_20 _ _ _ _ _ ?_
    simp (disch := omega) only [oAld, oCV, oIld, hM.1, List.getElem?_cons_zero, List.getElem?_cons_succ, List.set_cons_zero, List.set_cons_succ, List.drop_succ_cons, List.drop_zero, List.take_succ_cons, List.take_zero, List.length_cons, List.length_nil, List.reverse_cons, List.reverse_nil, List.nil_append, List.cons_append, Option.toList_some, Option.toList_none, va_rf_s, true_and, and_true, true_implies, false_implies, not_true_eq_false, not_false_eq_true, Nat.reduceAdd, Nat.reduceLeDiff, Nat.le_add_left, Nat.zero_le, Nat.le_refl, znew, true_or, or_true, b01_t, b01_f, b01_ok, bool_ft, vp_b01, vp_b0, vp_b1, b01_eq0, b01_eq1, implies_true, nI_add, nI_clamp, zi_in, zi_le_t, zi_le_f, zi_lt_t, zi_lt_f, zi_eq_t, zi_eq_f, nI_leI, nI_ltI, nI_eq, z_in, pk_mul, zu_same, zu_rw, zu_ix, zi_ne0, zi_sub, zi_m1, Nat.add_sub_cancel, Nat.reduceMul, Nat.reduceSub]
    refine zC.of0 (zX10_put hM hP1 (by simp [l4]; omega) _) (by omega) (Nat.zero_le _) (Nat.zero_le _) ?_
    rintro _ _ ⟨rfl, S2, rfl, hf2, hP2⟩
    refine sX10_feed_25 _ _ _ _ _ ?_
    simp (disch := omega) only [oAld, oCV, oIld, hM.1, List.getElem?_cons_zero, List.getElem?_cons_succ, List.set_cons_zero, List.set_cons_succ, List.drop_succ_cons, List.drop_zero, List.take_succ_cons, List.take_zero, List.length_cons, List.length_nil, List.reverse_cons, List.reverse_nil, List.nil_append, List.cons_append, Option.toList_some, Option.toList_none, va_rf_s, true_and, and_true, true_implies, false_implies, not_true_eq_false, not_false_eq_true, Nat.reduceAdd, Nat.reduceLeDiff, Nat.le_add_left, Nat.zero_le, Nat.le_refl, znew, true_or, or_true, b01_t, b01_f, b01_ok, bool_ft, vp_b01, vp_b0, vp_b1, b01_eq0, b01_eq1, implies_true, nI_add, nI_clamp, zi_in, zi_le_t, zi_le_f, zi_lt_t, zi_lt_f, zi_eq_t, zi_eq_f, nI_leI, nI_ltI, nI_eq, z_in, pk_mul, zu_same, zu_rw, zu_ix, zi_ne0, zi_sub, zi_m1, Nat.add_sub_cancel, Nat.reduceMul, Nat.reduceSub]
    refine zC.of0 (zX10_put hM hP2 (by simp [l4]; omega) _) (by omega) (Nat.zero_le _) (Nat.zero_le _) ?_
    rintro _ _ ⟨rfl, S3, rfl, hf3, hP3⟩
    refine sX10_feed_30 _ _ _ _ _ ?_
    simp (disch := omega) only [oAld, oCV, oIld, hM.1, List.getElem?_cons_zero, List.getElem?_cons_succ, List.set_cons_zero, List.set_cons_succ, List.drop_succ_cons, List.drop_zero, List.take_succ_cons, List.take_zero, List.length_cons, List.length_nil, List.reverse_cons, List.reverse_nil, List.nil_append, List.cons_append, Option.toList_some, Option.toList_none, va_rf_s, true_and, and_true, true_implies, false_implies, not_true_eq_false, not_false_eq_true, Nat.reduceAdd, Nat.reduceLeDiff, Nat.le_add_left, Nat.zero_le, Nat.le_refl, znew, true_or, or_true, b01_t, b01_f, b01_ok, bool_ft, vp_b01, vp_b0, vp_b1, b01_eq0, b01_eq1, implies_true, nI_add, nI_clamp, zi_in, zi_le_t, zi_le_f, zi_lt_t, zi_lt_f, zi_eq_t, zi_eq_f, nI_leI, nI_ltI, nI_eq, z_in, pk_mul, zu_same, zu_rw, zu_ix, zi_ne0, zi_sub, zi_m1, Nat.add_sub_cancel, Nat.reduceMul, Nat.reduceSub]
    refine zC.of0 (zX10_put hM hP3 (by simp [l4]; omega) _) (by omega) (Nat.zero_le _) (Nat.zero_le _) ?_
    rintro _ _ ⟨rfl, S4, rfl, hf4, hP4⟩
    refine sX10_feed_36 _ _ _ _ _ ?_
    simp (disch := omega) only [oAld, oCV, oIld, hM.1, List.getElem?_cons_zero, List.getElem?_cons_succ, List.set_cons_zero, List.set_cons_succ, List.drop_succ_cons, List.drop_zero, List.take_succ_cons, List.take_zero, List.length_cons, List.length_nil, List.reverse_cons, List.reverse_nil, List.nil_append, List.cons_append, Option.toList_some, Option.toList_none, va_rf_s, true_and, and_true, true_implies, false_implies, not_true_eq_false, not_false_eq_true, Nat.reduceAdd, Nat.reduceLeDiff, Nat.le_add_left, Nat.zero_le, Nat.le_refl, znew, true_or, or_true, b01_t, b01_f, b01_ok, bool_ft, vp_b01, vp_b0, vp_b1, b01_eq0, b01_eq1, implies_true, nI_add, nI_clamp, zi_in, zi_le_t, zi_le_f, zi_lt_t, zi_lt_f, zi_eq_t, zi_eq_f, nI_leI, nI_ltI, nI_eq, z_in, pk_mul, zu_same, zu_rw, zu_ix, zi_ne0, zi_sub, zi_m1, Nat.add_sub_cancel, Nat.reduceMul, Nat.reduceSub]
    refine zC.of0 (zX10_put hM hP4 (by simp [l4]; omega) _) (by omega) (Nat.zero_le _) (Nat.zero_le _) ?_
    rintro _ _ ⟨rfl, S5, rfl, hf5, hP5⟩
    refine sX10_feed_42 _ _ _ _ _ ?_
    simp (disch := omega) only [oAld, oGI, oRI, hM.1, hP5.1, List.getElem?_cons_zero, List.getElem?_cons_succ, List.set_cons_zero, List.set_cons_succ, List.drop_succ_cons, List.drop_zero, List.take_succ_cons, List.take_zero, List.length_cons, List.length_nil, List.reverse_cons, List.reverse_nil, List.nil_append, List.cons_append, Option.toList_some, Option.toList_none, va_rf_s, true_and, and_true, true_implies, false_implies, not_true_eq_false, not_false_eq_true, Nat.reduceAdd, Nat.reduceLeDiff, Nat.le_add_left, Nat.zero_le, Nat.le_refl, znew, true_or, or_true, b01_t, b01_f, b01_ok, bool_ft, vp_b01, vp_b0, vp_b1, b01_eq0, b01_eq1, implies_true, nI_add, nI_clamp, zi_in, zi_le_t, zi_le_f, zi_lt_t, zi_lt_f, zi_eq_t, zi_eq_f, nI_leI, nI_ltI, nI_eq, z_in, pk_mul, zu_same, zu_rw, zu_ix, zi_ne0, zi_sub, zi_m1, Nat.add_sub_cancel, Nat.reduceMul, Nat.reduceSub]
    refine hVQ _ _ ⟨S5, rfl, (((hf1.tt hf2).tt hf3).tt hf4).tt hf5, Or.inl ⟨hle, ?_, ?_⟩⟩
    · simp [l4]
    · simpa [List.append_assoc] using hP5
  · refine sX10_feed_0 _ _ _ _ _ ?_
    simp (disch := omega) only [oAld, oBin, oCV, oGI, oIfc, oIld, oPush, oRI, hM.1, h2, List.getElem?_cons_zero, List.getElem?_cons_succ, List.set_cons_zero, List.set_cons_succ, List.drop_succ_cons, List.drop_zero, List.take_succ_cons, List.take_zero, List.length_cons, List.length_nil, List.reverse_cons, List.reverse_nil, List.nil_append, List.cons_append, Option.toList_some, Option.toList_none, va_rf_s, true_and, and_true, true_implies, false_implies, not_true_eq_false, not_false_eq_true, Nat.reduceAdd, Nat.reduceLeDiff, Nat.le_add_left, Nat.zero_le, Nat.le_refl, znew, true_or, or_true, b01_t, b01_f, b01_ok, bool_ft, vp_b01, vp_b0, vp_b1, b01_eq0, b01_eq1, implies_true, nI_add, nI_clamp, zi_in, zi_le_t, zi_le_f, zi_lt_t, zi_lt_f, zi_eq_t, zi_eq_f, nI_leI, nI_ltI, nI_eq, z_in, pk_mul, zu_same, zu_rw, zu_ix, zi_ne0, zi_sub, zi_m1, Nat.add_sub_cancel, Nat.reduceMul, Nat.reduceSub]
    exact hVQ _ _ ⟨S, rfl, zfr.rf, Or.inr ⟨hle, rfl, hP⟩⟩
end MJ
