/-! the component: an hour -/
theorem setF_or (p q : Nat → Bool) {n : Nat} (hn : n ≤ 32) : setF p n ||| setF q n = setF (fun i => p i || q i) n := by
  refine b_ext (fun i hi => ?_)
  rw [b_or, bt_setF _ hn hi, bt_setF _ hn hi, bt_setF _ hn hi]
  cases decide (i < n) <;> simp
section HP
variable {t : ZT} {T : Nat → Int32} {st sd : Int32}
theorem hourT_47 : hourT t st sd T 47 = T 47 + nI 1 := by unfold hourT hourF; rw [if_pos rfl]
theorem hourT_g {y : Nat} (h6 : tny t ≤ 6) (hy : y < tny t) : hourT t st sd T (6 + y) = glowNextF (tag t) (tte t) (tlw t) T (draftyF T sd st (tnc t) (tdr t)) y := by
  unfold hourT hourF
  rw [if_neg (by omega)]
  unfold hourK
  rw [if_pos (by omega), show 6 + y - 6 = y by omega]
theorem hourT_h {y : Nat} (h6 : tny t ≤ 6) (hy : y < tny t) : hourT t st sd T (12 + y) = if leavesF (tag t) (tte t) (tlw t) T y = true then nI 1 else T (12 + y) := by
  unfold hourT hourF
  rw [if_neg (by omega)]
  unfold hourK
  rw [if_neg (by omega), if_pos (by omega), show 12 + y - 12 = y by omega]
theorem hourT_o {j : Nat} (h6 : tny t ≤ 6) (h47 : j ≠ 47) (hj : j < 6 ∨ (6 + tny t ≤ j ∧ j < 12) ∨ 12 + tny t ≤ j) : hourT t st sd T j = T j := by
  unfold hourT hourF
  rw [if_neg h47]
  exact hourK_lo hj h6
end HP
section CH
variable {l : Launch} {E : zE} {z : Nat} {h : Nat → Option zSh} {S : Nat → Nat → Int32} {L : Nat → Nat → Int64} {ok : Nat → Prop} {D ta w : Nat} {t : ZT} {q0 T : Nat → Int32} {A : zTA} {sd : Int32}
def g1F (t : ZT) (T : Nat → Int32) (y : Nat) : Int32 := withinF (T (6 + y) - coolNowF (tag t) (tte t) (tlw t) T y) (nI 0) (nI 999)
theorem cool_N {y : Nat} : ∃ q, coolNowF (tag t) (tte t) (tlw t) T y = nI q ∧ q ≤ 99 := by
  unfold coolNowF
  split
  · exact within_N (by omega)
  · exact ⟨0, rfl, by omega⟩
theorem g1_max {y : Nat} (hy : y < 6) (hI : rI t T) : maxF (nI 0) (T (6 + y) - coolNowF (tag t) (tte t) (tlw t) T y) = g1F t T y := by
  obtain ⟨g, e, h9, -⟩ := hI.1 y hy
  obtain ⟨q, e2, h2⟩ := cool_N (t := t) (T := T) (y := y)
  unfold g1F
  rw [e, e2]
  exact max_sub (by omega) (by omega) (by omega)
theorem zX5_goesBy {ar : Nat} {st : Int32} (hW : isTw h w) (hX : isTx h S ok D ta t q0 A) (hk : okW ok w) (hT : tw S w t sd T) (hI : rI t T) (hTI : tI t) (har : (zt h ar = 27 ∧ st = nI 0) ∨ (zt h ar = 28 ∧ st = nI 1)) :
    zM l E (D + 5) YX5_goesBy [.ref w, .ref ta, .ref ar] (z, h, S, L) 0 0 (fun r X => r = none ∧ ∃ S', X = (z, h, S', L) ∧ twF w S S' ∧ tw S' w t sd (hourT t st sd T)) (fun _ _ => False) := by
  obtain ⟨h7, h10, h6, h5⟩ := hX.b
  obtain ⟨t1, t2, t3, t4, t5, t6, t7, t8, t9, t10⟩ := id hT
  obtain ⟨dy, hdy⟩ : ∃ dy, dy = draftyF T sd st (tnc t) (tdr t) := ⟨_, rfl⟩
  have hbit : ∀ s, nI 1 <<< (nI s &&& 31) = bitF s := fun s => rfl
  have hXf : ∀ {S1 : Nat → Nat → Int32}, (∀ a, a < w ∨ w + 10 ≤ a → S1 a = S a) → isTx h S1 ok D ta t q0 A := fun h1 => hX.fr (fun b hb => h1 b (hk b hb)) (fun _ _ => rfl) (fun _ hb => hb)
  have hg1 : ∀ y, y < 6 → maxF (nI 0) (T (6 + y) - coolNowF (tag t) (tte t) (tlw t) T y) = g1F t T y := fun y hy => g1_max hy hI
  have hc1 : ∀ y, coolNowF (tag t) (tte t) (tlw t) T y = coolNowF (tag t) (tte t) (tlw t) T y := fun _ => rfl
  have hnext : ∀ y, glowNextF (tag t) (tte t) (tlw t) T dy y = if leavesF (tag t) (tte t) (tlw t) T y = true then nI 0 else if T y = dy then g1F t T y / nI 2 else g1F t T y := fun y => rfl
  refine zM.go rfl rfl (Nat.le_of_ble_eq_true rfl) (ls := [some (.ref w), some (.ref ta), some (.ref ar), none, none]) rfl ?_
  intro V hVl hVE hVd hVc hVs hVQ hVX
  generalize hLV : (fun y => leavesF (tag t) (tte t) (tlw t) T y) = LV
  have hLVy : ∀ y, leavesF (tag t) (tte t) (tlw t) T y = LV y := fun y => by rw [← hLV]
  generalize hCN : (fun y => coolNowF (tag t) (tte t) (tlw t) T y) = CN
  have hCNy : ∀ y, coolNowF (tag t) (tte t) (tlw t) T y = CN y := fun y => by rw [← hCN]
  have hg1' : ∀ y, y < 6 → maxF (nI 0) (T (6 + y) - CN y) = g1F t T y := fun y hy => by rw [← hCNy]; exact hg1 y hy
  generalize hG1 : g1F t T = G1 at *
  -- the third loop
  have loop3 : ∀ p, p ≤ tny t → ∀ S3 : Nat → Nat → Int32, (∀ a, a < w + 2 ∨ (w + 2 < a ∧ a < w + 7) ∨ w + 10 ≤ a → S3 a = S a) → (∀ j, j < 6 → S3 (w + 2) j = if j < p ∧ LV j = true then nI 0 else if j < tny t then (if T j = dy then G1 j / nI 2 else G1 j) else T (6 + j)) → zW V YX5_goesBy 114 [some (.ref w), some (.ref ta), some (.ref ar), some (.int (setF LV (tny t))), some (.int (nI p))] [] (z, h, S3, L) 0 0 := by
    refine z_down ?_ (fun p hp ih => ?_)
    · intro S3 hS3 hj
      have hX3 := hXf (S1 := S3) (fun a ha => hS3 a (by omega))
      have f6 : S3 w 6 = homeR t T := by rw [hS3 w (by omega)]; exact t6
      have f9 : S3 w 9 = T 47 := by rw [hS3 w (by omega)]; exact t9
      refine sX5_goesBy_114 _ _ _ _ _ ?_
      simp (disch := omega) only [oAld, oCV, oGR, oIld, hX.k, hX.r2, hX.z0, hX.z1, hX.z2, hX.z3, List.getElem?_cons_zero, List.getElem?_cons_succ, List.set_cons_zero, List.set_cons_succ, List.drop_succ_cons, List.drop_zero, List.take_succ_cons, List.take_zero, List.length_cons, List.length_nil, List.reverse_cons, List.reverse_nil, List.nil_append, List.cons_append, Option.toList_some, Option.toList_none, va_rf_s, true_and, and_true, true_implies, false_implies, not_true_eq_false, not_false_eq_true, Nat.reduceAdd, Nat.reduceLeDiff, Nat.le_add_left, Nat.zero_le, Nat.le_refl, znew, true_or, or_true, b01_t, b01_f, b01_ok, bool_ft, vp_b01, vp_b0, vp_b1, b01_eq0, b01_eq1, implies_true, nI_add, nI_clamp, zi_in, zi_le_t, zi_le_f, zi_lt_t, zi_lt_f, zi_eq_t, zi_eq_f, nI_leI, nI_ltI, nI_eq, z_in, pk_mul, zu_same, zu_rw, zu_ix, zi_ne0, zi_sub, zi_m1, Nat.add_sub_cancel, Nat.reduceMul, Nat.reduceSub]
      refine zC.of0 (zJ5_size hX3.l2) (by omega) (Nat.zero_le _) (Nat.zero_le _) ?_
      rintro _ _ ⟨rfl, rfl⟩
      refine sX5_goesBy_123 _ _ _ _ _ ?_
      simp (disch := omega) only [oAld, oAst1, oBin, oDup, oGI, oGR, oIfc, oIld, oInc, oNop, oPI, oPush, oRV, hW.k, hW.r1, hW.t1, hW.n1, f6, f9, List.getElem?_cons_zero, List.getElem?_cons_succ, List.set_cons_zero, List.set_cons_succ, List.drop_succ_cons, List.drop_zero, List.take_succ_cons, List.take_zero, List.length_cons, List.length_nil, List.reverse_cons, List.reverse_nil, List.nil_append, List.cons_append, Option.toList_some, Option.toList_none, va_rf_s, true_and, and_true, true_implies, false_implies, not_true_eq_false, not_false_eq_true, Nat.reduceAdd, Nat.reduceLeDiff, Nat.le_add_left, Nat.zero_le, Nat.le_refl, znew, true_or, or_true, b01_t, b01_f, b01_ok, bool_ft, vp_b01, vp_b0, vp_b1, b01_eq0, b01_eq1, implies_true, nI_add, nI_clamp, zi_in, zi_le_t, zi_le_f, zi_lt_t, zi_lt_f, zi_eq_t, zi_eq_f, nI_leI, nI_ltI, nI_eq, z_in, pk_mul, zu_same, zu_rw, zu_ix, zi_ne0, zi_sub, zi_m1, Nat.add_sub_cancel, Nat.reduceMul, Nat.reduceSub]
      refine hVQ _ _ ⟨rfl, _, rfl, fun a ha => ?_, ?_⟩
      · rw [zu_rw _ _ (by omega), zu_rw _ _ (by omega)]; exact hS3 a (by omega)
      · have nw : ∀ i, 1 ≤ i → zu (zu S3 w 6 (homeR t T ||| setF LV (tny t))) w 9 (T 47 + nI 1) (w + i) = S3 (w + i) := fun i hi => by rw [zu_rw _ _ (by omega), zu_rw _ _ (by omega)]
        refine ⟨fun y hy => ?_, fun y hy => ?_, fun y hy => ?_, fun y hy => ?_, fun v hv => ?_, ?_, ?_, fun hc => ?_, ?_, ?_⟩
        · rw [nw 1 (by omega), hS3 _ (by omega), t1 y hy]
          by_cases hyn : y < tny t
          · rw [if_pos hyn, if_pos hyn, hourT_o h6 (by omega) (by omega)]
          · rw [if_neg hyn, if_neg hyn]
        · rw [nw 2 (by omega), hj y hy]
          by_cases hyn : y < tny t
          · rw [hourT_g h6 hyn, ← hdy, hnext, hLVy]
            by_cases hl : LV y = true
            · have h4 : y < tny t ∧ LV y = true := ⟨hyn, hl⟩
              rw [if_pos h4, if_pos hl]
            · have h4 : ¬ (y < tny t ∧ LV y = true) := fun q => hl q.2
              rw [if_neg h4, if_pos hyn, if_neg hl]
          · have h4 : ¬ (y < tny t ∧ LV y = true) := fun q => hyn q.1
            rw [if_neg h4, if_neg hyn, hourT_o h6 (by omega) (by omega)]
        · rw [nw 3 (by omega), hS3 _ (by omega), hourT_o h6 (by omega) (by omega)]; exact t3 y hy
        · rw [nw 4 (by omega), hS3 _ (by omega), hourT_o h6 (by omega) (by omega)]; exact t4 y hy
        · rw [nw 5 (by omega), nw 6 (by omega), hS3 _ (by omega), hS3 _ (by omega), hourT_o h6 (by omega) (by omega), hourT_o h6 (by omega) (by omega)]; exact t5 v hv
        · have e : homeR t (hourT t st sd T) = homeR t T ||| setF LV (tny t) := by
            unfold homeR
            rw [setF_or _ _ (by omega)]
            refine setF_ext (fun k hk => ?_)
            rw [hourT_h h6 hk, hLVy]
            by_cases hl : LV k = true
            · rw [if_pos hl, hl]; simp
            · have hl' : LV k = false := by simpa using hl
              rw [if_neg hl, hl']; simp
          rw [e]; simp (disch := omega) only [List.getElem?_cons_zero, List.getElem?_cons_succ, List.set_cons_zero, List.set_cons_succ, List.drop_succ_cons, List.drop_zero, List.take_succ_cons, List.take_zero, List.length_cons, List.length_nil, List.reverse_cons, List.reverse_nil, List.nil_append, List.cons_append, Option.toList_some, Option.toList_none, va_rf_s, true_and, and_true, true_implies, false_implies, not_true_eq_false, not_false_eq_true, Nat.reduceAdd, Nat.reduceLeDiff, Nat.le_add_left, Nat.zero_le, Nat.le_refl, znew, true_or, or_true, b01_t, b01_f, b01_ok, bool_ft, vp_b01, vp_b0, vp_b1, b01_eq0, b01_eq1, implies_true, nI_add, nI_clamp, zi_in, zi_le_t, zi_le_f, zi_lt_t, zi_lt_f, zi_eq_t, zi_eq_f, nI_leI, nI_ltI, nI_eq, z_in, pk_mul, zu_same, zu_rw, zu_ix, zi_ne0, zi_sub, zi_m1, Nat.add_sub_cancel, Nat.reduceMul, Nat.reduceSub, ]
        · have e : rougeR t (hourT t st sd T) = rougeR t T := by
            unfold rougeR
            refine setF_ext (fun k hk => ?_)
            rw [hourT_o h6 (by omega) (by omega)]
          have f7 : S3 w 7 = rougeR t T := by rw [hS3 w (by omega)]; exact t7
          rw [e]; simp (disch := omega) only [List.getElem?_cons_zero, List.getElem?_cons_succ, List.set_cons_zero, List.set_cons_succ, List.drop_succ_cons, List.drop_zero, List.take_succ_cons, List.take_zero, List.length_cons, List.length_nil, List.reverse_cons, List.reverse_nil, List.nil_append, List.cons_append, Option.toList_some, Option.toList_none, va_rf_s, true_and, and_true, true_implies, false_implies, not_true_eq_false, not_false_eq_true, Nat.reduceAdd, Nat.reduceLeDiff, Nat.le_add_left, Nat.zero_le, Nat.le_refl, znew, true_or, or_true, b01_t, b01_f, b01_ok, bool_ft, vp_b01, vp_b0, vp_b1, b01_eq0, b01_eq1, implies_true, nI_add, nI_clamp, zi_in, zi_le_t, zi_le_f, zi_lt_t, zi_lt_f, zi_eq_t, zi_eq_f, nI_leI, nI_ltI, nI_eq, z_in, pk_mul, zu_same, zu_rw, zu_ix, zi_ne0, zi_sub, zi_m1, Nat.add_sub_cancel, Nat.reduceMul, Nat.reduceSub, f7]
        · have f8 : S3 w 8 = T 46 := by rw [hS3 w (by omega)]; exact t8 hc
          rw [hourT_o h6 (by omega) (by omega)]; simp (disch := omega) only [List.getElem?_cons_zero, List.getElem?_cons_succ, List.set_cons_zero, List.set_cons_succ, List.drop_succ_cons, List.drop_zero, List.take_succ_cons, List.take_zero, List.length_cons, List.length_nil, List.reverse_cons, List.reverse_nil, List.nil_append, List.cons_append, Option.toList_some, Option.toList_none, va_rf_s, true_and, and_true, true_implies, false_implies, not_true_eq_false, not_false_eq_true, Nat.reduceAdd, Nat.reduceLeDiff, Nat.le_add_left, Nat.zero_le, Nat.le_refl, znew, true_or, or_true, b01_t, b01_f, b01_ok, bool_ft, vp_b01, vp_b0, vp_b1, b01_eq0, b01_eq1, implies_true, nI_add, nI_clamp, zi_in, zi_le_t, zi_le_f, zi_lt_t, zi_lt_f, zi_eq_t, zi_eq_f, nI_leI, nI_ltI, nI_eq, z_in, pk_mul, zu_same, zu_rw, zu_ix, zi_ne0, zi_sub, zi_m1, Nat.add_sub_cancel, Nat.reduceMul, Nat.reduceSub, f8]
        · rw [hourT_47]; simp (disch := omega) only [List.getElem?_cons_zero, List.getElem?_cons_succ, List.set_cons_zero, List.set_cons_succ, List.drop_succ_cons, List.drop_zero, List.take_succ_cons, List.take_zero, List.length_cons, List.length_nil, List.reverse_cons, List.reverse_nil, List.nil_append, List.cons_append, Option.toList_some, Option.toList_none, va_rf_s, true_and, and_true, true_implies, false_implies, not_true_eq_false, not_false_eq_true, Nat.reduceAdd, Nat.reduceLeDiff, Nat.le_add_left, Nat.zero_le, Nat.le_refl, znew, true_or, or_true, b01_t, b01_f, b01_ok, bool_ft, vp_b01, vp_b0, vp_b1, b01_eq0, b01_eq1, implies_true, nI_add, nI_clamp, zi_in, zi_le_t, zi_le_f, zi_lt_t, zi_lt_f, zi_eq_t, zi_eq_f, nI_leI, nI_ltI, nI_eq, z_in, pk_mul, zu_same, zu_rw, zu_ix, zi_ne0, zi_sub, zi_m1, Nat.add_sub_cancel, Nat.reduceMul, Nat.reduceSub, ]
        · have f10 : S3 w 10 = sd := by rw [hS3 w (by omega)]; exact t10
          simp (disch := omega) only [List.getElem?_cons_zero, List.getElem?_cons_succ, List.set_cons_zero, List.set_cons_succ, List.drop_succ_cons, List.drop_zero, List.take_succ_cons, List.take_zero, List.length_cons, List.length_nil, List.reverse_cons, List.reverse_nil, List.nil_append, List.cons_append, Option.toList_some, Option.toList_none, va_rf_s, true_and, and_true, true_implies, false_implies, not_true_eq_false, not_false_eq_true, Nat.reduceAdd, Nat.reduceLeDiff, Nat.le_add_left, Nat.zero_le, Nat.le_refl, znew, true_or, or_true, b01_t, b01_f, b01_ok, bool_ft, vp_b01, vp_b0, vp_b1, b01_eq0, b01_eq1, implies_true, nI_add, nI_clamp, zi_in, zi_le_t, zi_le_f, zi_lt_t, zi_lt_f, zi_eq_t, zi_eq_f, nI_leI, nI_ltI, nI_eq, z_in, pk_mul, zu_same, zu_rw, zu_ix, zi_ne0, zi_sub, zi_m1, Nat.add_sub_cancel, Nat.reduceMul, Nat.reduceSub, f10]
    · intro S3 hS3 hj
      have hX3 := hXf (S1 := S3) (fun a ha => hS3 a (by omega))
      have hb : bt (setF LV (tny t)) p = LV p := by rw [bt_setF _ (by omega) (by omega), decide_eq_true hp, Bool.true_and]
      refine sX5_goesBy_114 _ _ _ _ _ ?_
      simp (disch := omega) only [oAld, oCV, oGR, oIld, hX.k, hX.r2, hX.z0, hX.z1, hX.z2, hX.z3, List.getElem?_cons_zero, List.getElem?_cons_succ, List.set_cons_zero, List.set_cons_succ, List.drop_succ_cons, List.drop_zero, List.take_succ_cons, List.take_zero, List.length_cons, List.length_nil, List.reverse_cons, List.reverse_nil, List.nil_append, List.cons_append, Option.toList_some, Option.toList_none, va_rf_s, true_and, and_true, true_implies, false_implies, not_true_eq_false, not_false_eq_true, Nat.reduceAdd, Nat.reduceLeDiff, Nat.le_add_left, Nat.zero_le, Nat.le_refl, znew, true_or, or_true, b01_t, b01_f, b01_ok, bool_ft, vp_b01, vp_b0, vp_b1, b01_eq0, b01_eq1, implies_true, nI_add, nI_clamp, zi_in, zi_le_t, zi_le_f, zi_lt_t, zi_lt_f, zi_eq_t, zi_eq_f, nI_leI, nI_ltI, nI_eq, z_in, pk_mul, zu_same, zu_rw, zu_ix, zi_ne0, zi_sub, zi_m1, Nat.add_sub_cancel, Nat.reduceMul, Nat.reduceSub]
      refine zC.of0 (zJ5_size hX3.l2) (by omega) (Nat.zero_le _) (Nat.zero_le _) ?_
      rintro _ _ ⟨rfl, rfl⟩
      cases hl : LV p with
      | true =>
        rw [hl] at hb
        have hb' : ((setF LV (tny t) >>> (nI p &&& 31)) &&& nI 1 = nI 1) = True := by rw [b_one1 _ (by omega)]; exact eq_true hb
        refine sX5_goesBy_123 _ _ _ _ _ ?_
        simp (disch := omega) only [oAld, oAst1, oBin, oDup, oGI, oGR, oIfc, oIld, oInc, oNop, oPI, oPush, oRV, hW.k, hW.r1, hW.t1, hW.n1, hb', List.getElem?_cons_zero, List.getElem?_cons_succ, List.set_cons_zero, List.set_cons_succ, List.drop_succ_cons, List.drop_zero, List.take_succ_cons, List.take_zero, List.length_cons, List.length_nil, List.reverse_cons, List.reverse_nil, List.nil_append, List.cons_append, Option.toList_some, Option.toList_none, va_rf_s, true_and, and_true, true_implies, false_implies, not_true_eq_false, not_false_eq_true, Nat.reduceAdd, Nat.reduceLeDiff, Nat.le_add_left, Nat.zero_le, Nat.le_refl, znew, true_or, or_true, b01_t, b01_f, b01_ok, bool_ft, vp_b01, vp_b0, vp_b1, b01_eq0, b01_eq1, implies_true, nI_add, nI_clamp, zi_in, zi_le_t, zi_le_f, zi_lt_t, zi_lt_f, zi_eq_t, zi_eq_f, nI_leI, nI_ltI, nI_eq, z_in, pk_mul, zu_same, zu_rw, zu_ix, zi_ne0, zi_sub, zi_m1, Nat.add_sub_cancel, Nat.reduceMul, Nat.reduceSub]
        refine ih _ (fun a ha => by rw [zu_rw _ _ (by omega)]; exact hS3 a ha) (fun j hj6 => ?_)
        rw [zu_rowj]
        by_cases he : j = p
        · subst he; rw [if_pos rfl, if_pos ⟨by omega, hl⟩]
        · rw [if_neg he, hj j hj6]
          by_cases h2 : j < p ∧ LV j = true
          · rw [if_pos h2, if_pos ⟨by omega, h2.2⟩]
          · have h3 : ¬ (j < p + 1 ∧ LV j = true) := fun q => h2 ⟨by omega, q.2⟩
            rw [if_neg h2, if_neg h3]
      | false =>
        rw [hl] at hb
        have hb' : ((setF LV (tny t) >>> (nI p &&& 31)) &&& nI 1 = nI 1) = False := by rw [b_one1 _ (by omega)]; exact eq_false (by rw [hb]; decide)
        refine sX5_goesBy_123 _ _ _ _ _ ?_
        simp (disch := omega) only [oAld, oAst1, oBin, oDup, oGI, oGR, oIfc, oIld, oInc, oNop, oPI, oPush, oRV, hW.k, hW.r1, hW.t1, hW.n1, hb', List.getElem?_cons_zero, List.getElem?_cons_succ, List.set_cons_zero, List.set_cons_succ, List.drop_succ_cons, List.drop_zero, List.take_succ_cons, List.take_zero, List.length_cons, List.length_nil, List.reverse_cons, List.reverse_nil, List.nil_append, List.cons_append, Option.toList_some, Option.toList_none, va_rf_s, true_and, and_true, true_implies, false_implies, not_true_eq_false, not_false_eq_true, Nat.reduceAdd, Nat.reduceLeDiff, Nat.le_add_left, Nat.zero_le, Nat.le_refl, znew, true_or, or_true, b01_t, b01_f, b01_ok, bool_ft, vp_b01, vp_b0, vp_b1, b01_eq0, b01_eq1, implies_true, nI_add, nI_clamp, zi_in, zi_le_t, zi_le_f, zi_lt_t, zi_lt_f, zi_eq_t, zi_eq_f, nI_leI, nI_ltI, nI_eq, z_in, pk_mul, zu_same, zu_rw, zu_ix, zi_ne0, zi_sub, zi_m1, Nat.add_sub_cancel, Nat.reduceMul, Nat.reduceSub]
        refine ih S3 hS3 (fun j hj6 => ?_)
        rw [hj j hj6]
        by_cases h2 : j < p ∧ LV j = true
        · rw [if_pos h2, if_pos ⟨by omega, h2.2⟩]
        · have h3 : ¬ (j < p + 1 ∧ LV j = true) := fun q => by
            by_cases he : j = p
            · subst he; rw [hl] at q; exact absurd q.2 (by decide)
            · exact h2 ⟨by omega, q.2⟩
          rw [if_neg h2, if_neg h3]
  -- the second loop
  have loop2 : ∀ p, p ≤ tny t → ∀ S2 : Nat → Nat → Int32, (∀ a, a < w + 2 ∨ (w + 2 < a ∧ a < w + 7) ∨ w + 10 ≤ a → S2 a = S a) → (∀ j, j < tny t → S2 (w + 7) j = CN j) → (∀ j, j < 6 → S2 (w + 2) j = if j < p then G1 j else T (6 + j)) → zW V YX5_goesBy 61 [some (.ref w), some (.ref ta), some (.ref ar), some (.int (setF LV (tny t))), some (.int (nI p))] [] (z, h, S2, L) 0 0 := by
    refine z_down ?_ (fun p hp ih => ?_)
    · intro S2 hS2 h7j hj
      have hX2 := hXf (S1 := S2) (fun a ha => hS2 a (by omega))
      have hTG : twG S2 w t sd T := ⟨fun y hy => by rw [hS2 _ (by omega)]; exact t1 y hy, by rw [hS2 w (by omega)]; exact t9, by rw [hS2 w (by omega)]; exact t10⟩
      have behind : ∀ S3 : Nat → Nat → Int32, blR w (tny t) T dy S2 S3 → zW V YX5_goesBy 111 [some (.ref w), some (.ref ta), some (.ref ar), some (.int (setF LV (tny t))), some (.int (nI (tny t)))] [] (z, h, S3, L) 0 0 := by
        intro S3 hbl
        refine sX5_goesBy_111 _ _ _ _ _ ?_
        simp (disch := omega) only [oIst, oPush, List.getElem?_cons_zero, List.getElem?_cons_succ, List.set_cons_zero, List.set_cons_succ, List.drop_succ_cons, List.drop_zero, List.take_succ_cons, List.take_zero, List.length_cons, List.length_nil, List.reverse_cons, List.reverse_nil, List.nil_append, List.cons_append, Option.toList_some, Option.toList_none, va_rf_s, true_and, and_true, true_implies, false_implies, not_true_eq_false, not_false_eq_true, Nat.reduceAdd, Nat.reduceLeDiff, Nat.le_add_left, Nat.zero_le, Nat.le_refl, znew, true_or, or_true, b01_t, b01_f, b01_ok, bool_ft, vp_b01, vp_b0, vp_b1, b01_eq0, b01_eq1, implies_true, nI_add, nI_clamp, zi_in, zi_le_t, zi_le_f, zi_lt_t, zi_lt_f, zi_eq_t, zi_eq_f, nI_leI, nI_ltI, nI_eq, z_in, pk_mul, zu_same, zu_rw, zu_ix, zi_ne0, zi_sub, zi_m1, Nat.add_sub_cancel, Nat.reduceMul, Nat.reduceSub]
        refine loop3 0 (by omega) S3 (fun a ha => by rw [hbl.1 a (by omega)]; exact hS2 a ha) (fun j hj6 => ?_)
        have h3 : ¬ (j < 0 ∧ LV j = true) := fun q => by omega
        rw [hbl.2 j hj6, hj j hj6, if_neg h3]
        by_cases hjn : j < tny t
        · rw [if_pos hjn, if_pos hjn]
          by_cases hq : T j = dy
          · have h4 : j < tny t ∧ T j = dy := ⟨hjn, hq⟩
            rw [if_pos h4, if_pos hq]
          · have h4 : ¬ (j < tny t ∧ T j = dy) := fun q => hq q.2
            rw [if_neg h4, if_neg hq]
        · have h4 : ¬ (j < tny t ∧ T j = dy) := fun q => hjn q.1
          rw [if_neg h4, if_neg hjn, if_neg hjn]
      refine sX5_goesBy_61 _ _ _ _ _ ?_
      simp (disch := omega) only [oAld, oCV, oGR, oIld, hX.k, hX.r2, hX.z0, hX.z1, hX.z2, hX.z3, List.getElem?_cons_zero, List.getElem?_cons_succ, List.set_cons_zero, List.set_cons_succ, List.drop_succ_cons, List.drop_zero, List.take_succ_cons, List.take_zero, List.length_cons, List.length_nil, List.reverse_cons, List.reverse_nil, List.nil_append, List.cons_append, Option.toList_some, Option.toList_none, va_rf_s, true_and, and_true, true_implies, false_implies, not_true_eq_false, not_false_eq_true, Nat.reduceAdd, Nat.reduceLeDiff, Nat.le_add_left, Nat.zero_le, Nat.le_refl, znew, true_or, or_true, b01_t, b01_f, b01_ok, bool_ft, vp_b01, vp_b0, vp_b1, b01_eq0, b01_eq1, implies_true, nI_add, nI_clamp, zi_in, zi_le_t, zi_le_f, zi_lt_t, zi_lt_f, zi_eq_t, zi_eq_f, nI_leI, nI_ltI, nI_eq, z_in, pk_mul, zu_same, zu_rw, zu_ix, zi_ne0, zi_sub, zi_m1, Nat.add_sub_cancel, Nat.reduceMul, Nat.reduceSub]
      refine zC.of0 (zJ5_size hX2.l2) (by omega) (Nat.zero_le _) (Nat.zero_le _) ?_
      rintro _ _ ⟨rfl, rfl⟩
      refine sX5_goesBy_70 (by omega) _ _ _ _ _ ?_
      simp (disch := omega) only [oAld, oAld1, oAst1, oBin, oCVs, oGR, oIfc, oIld, oInc, oM2, oNop, oPush, hW.k, hW.r1, hW.t1, hW.n1, hW.r11, hW.t11, hW.n11, List.getElem?_cons_zero, List.getElem?_cons_succ, List.set_cons_zero, List.set_cons_succ, List.drop_succ_cons, List.drop_zero, List.take_succ_cons, List.take_zero, List.length_cons, List.length_nil, List.reverse_cons, List.reverse_nil, List.nil_append, List.cons_append, Option.toList_some, Option.toList_none, va_rf_s, true_and, and_true, true_implies, false_implies, not_true_eq_false, not_false_eq_true, Nat.reduceAdd, Nat.reduceLeDiff, Nat.le_add_left, Nat.zero_le, Nat.le_refl, znew, true_or, or_true, b01_t, b01_f, b01_ok, bool_ft, vp_b01, vp_b0, vp_b1, b01_eq0, b01_eq1, implies_true, nI_add, nI_clamp, zi_in, zi_le_t, zi_le_f, zi_lt_t, zi_lt_f, zi_eq_t, zi_eq_f, nI_leI, nI_ltI, nI_eq, z_in, pk_mul, zu_same, zu_rw, zu_ix, zi_ne0, zi_sub, zi_m1, Nat.add_sub_cancel, Nat.reduceMul, Nat.reduceSub]
      rcases har with ⟨ha, rfl⟩ | ⟨ha, rfl⟩
      · refine ⟨(7, YX8_blows), by simp, ha, ?_⟩
        refine zC.of0 (zX8_blows hW hX2 hk hTG hI) (by omega) (Nat.zero_le _) (Nat.zero_le _) ?_
        rintro _ _ ⟨rfl, S3, rfl, hbl⟩
        rw [← hdy] at hbl
        exact behind S3 hbl
      · refine ⟨(8, YX9_blows), by simp, ha, ?_⟩
        refine zC.of0 (zX9_blows (sd := sd) h7 hI) (by omega) (Nat.zero_le _) (Nat.zero_le _) ?_
        rintro _ _ ⟨rfl, S3, rfl, hbl⟩
        rw [← hdy] at hbl
        exact behind S3 hbl
    · intro S2 hS2 h7j hj
      have hX2 := hXf (S1 := S2) (fun a ha => hS2 a (by omega))
      have e2 : S2 (w + 2) p = T (6 + p) := by rw [hj p (by omega), if_neg (by omega)]
      have e7 := h7j p hp
      have em := hg1' p (by omega)
      refine sX5_goesBy_61 _ _ _ _ _ ?_
      simp (disch := omega) only [oAld, oCV, oGR, oIld, hX.k, hX.r2, hX.z0, hX.z1, hX.z2, hX.z3, List.getElem?_cons_zero, List.getElem?_cons_succ, List.set_cons_zero, List.set_cons_succ, List.drop_succ_cons, List.drop_zero, List.take_succ_cons, List.take_zero, List.length_cons, List.length_nil, List.reverse_cons, List.reverse_nil, List.nil_append, List.cons_append, Option.toList_some, Option.toList_none, va_rf_s, true_and, and_true, true_implies, false_implies, not_true_eq_false, not_false_eq_true, Nat.reduceAdd, Nat.reduceLeDiff, Nat.le_add_left, Nat.zero_le, Nat.le_refl, znew, true_or, or_true, b01_t, b01_f, b01_ok, bool_ft, vp_b01, vp_b0, vp_b1, b01_eq0, b01_eq1, implies_true, nI_add, nI_clamp, zi_in, zi_le_t, zi_le_f, zi_lt_t, zi_lt_f, zi_eq_t, zi_eq_f, nI_leI, nI_ltI, nI_eq, z_in, pk_mul, zu_same, zu_rw, zu_ix, zi_ne0, zi_sub, zi_m1, Nat.add_sub_cancel, Nat.reduceMul, Nat.reduceSub]
      refine zC.of0 (zJ5_size hX2.l2) (by omega) (Nat.zero_le _) (Nat.zero_le _) ?_
      rintro _ _ ⟨rfl, rfl⟩
      refine sX5_goesBy_70 (by omega) _ _ _ _ _ ?_
      simp (disch := omega) only [oAld, oAld1, oAst1, oBin, oCVs, oGR, oIfc, oIld, oInc, oM2, oNop, oPush, hW.k, hW.r1, hW.t1, hW.n1, hW.r11, hW.t11, hW.n11, e2, e7, em, List.getElem?_cons_zero, List.getElem?_cons_succ, List.set_cons_zero, List.set_cons_succ, List.drop_succ_cons, List.drop_zero, List.take_succ_cons, List.take_zero, List.length_cons, List.length_nil, List.reverse_cons, List.reverse_nil, List.nil_append, List.cons_append, Option.toList_some, Option.toList_none, va_rf_s, true_and, and_true, true_implies, false_implies, not_true_eq_false, not_false_eq_true, Nat.reduceAdd, Nat.reduceLeDiff, Nat.le_add_left, Nat.zero_le, Nat.le_refl, znew, true_or, or_true, b01_t, b01_f, b01_ok, bool_ft, vp_b01, vp_b0, vp_b1, b01_eq0, b01_eq1, implies_true, nI_add, nI_clamp, zi_in, zi_le_t, zi_le_f, zi_lt_t, zi_lt_f, zi_eq_t, zi_eq_f, nI_leI, nI_ltI, nI_eq, z_in, pk_mul, zu_same, zu_rw, zu_ix, zi_ne0, zi_sub, zi_m1, Nat.add_sub_cancel, Nat.reduceMul, Nat.reduceSub]
      refine ih _ (fun a ha => by rw [zu_rw _ _ (by omega)]; exact hS2 a ha) (fun j hjn => by rw [zu_rw _ _ (by omega)]; exact h7j j hjn) (fun j hj6 => ?_)
      rw [zu_rowj]
      by_cases he : j = p
      · subst he; rw [if_pos rfl, if_pos (by omega)]
      · rw [if_neg he, hj j hj6]
        by_cases h2 : j < p
        · rw [if_pos h2, if_pos (by omega)]
        · rw [if_neg h2, if_neg (by omega)]
  -- the first loop
  have loop1 : ∀ p, p ≤ tny t → ∀ S1 : Nat → Nat → Int32, (∀ a, a < w + 7 ∨ w + 10 ≤ a → S1 a = S a) → (∀ j, j < p → S1 (w + 7) j = CN j) → zW V YX5_goesBy 5 [some (.ref w), some (.ref ta), some (.ref ar), some (.int (setF LV p)), some (.int (nI p))] [] (z, h, S1, L) 0 0 := by
    refine z_down ?_ (fun p hp ih => ?_)
    · intro S1 hS1 hj
      have hX1 := hXf (S1 := S1) (fun a ha => hS1 a (by omega))
      refine sX5_goesBy_5 _ _ _ _ _ ?_
      simp (disch := omega) only [oAld, oCV, oGR, oIld, hX.k, hX.r2, hX.z0, hX.z1, hX.z2, hX.z3, List.getElem?_cons_zero, List.getElem?_cons_succ, List.set_cons_zero, List.set_cons_succ, List.drop_succ_cons, List.drop_zero, List.take_succ_cons, List.take_zero, List.length_cons, List.length_nil, List.reverse_cons, List.reverse_nil, List.nil_append, List.cons_append, Option.toList_some, Option.toList_none, va_rf_s, true_and, and_true, true_implies, false_implies, not_true_eq_false, not_false_eq_true, Nat.reduceAdd, Nat.reduceLeDiff, Nat.le_add_left, Nat.zero_le, Nat.le_refl, znew, true_or, or_true, b01_t, b01_f, b01_ok, bool_ft, vp_b01, vp_b0, vp_b1, b01_eq0, b01_eq1, implies_true, nI_add, nI_clamp, zi_in, zi_le_t, zi_le_f, zi_lt_t, zi_lt_f, zi_eq_t, zi_eq_f, nI_leI, nI_ltI, nI_eq, z_in, pk_mul, zu_same, zu_rw, zu_ix, zi_ne0, zi_sub, zi_m1, Nat.add_sub_cancel, Nat.reduceMul, Nat.reduceSub]
      refine zC.of0 (zJ5_size hX1.l2) (by omega) (Nat.zero_le _) (Nat.zero_le _) ?_
      rintro _ _ ⟨rfl, rfl⟩
      refine sX5_goesBy_14 _ _ _ _ _ ?_
      simp (disch := omega) only [oAld, oCV, oGR, oIfc, oIld, oIst, oPush, hW.k, hW.r11, hW.t11, hW.n11, List.getElem?_cons_zero, List.getElem?_cons_succ, List.set_cons_zero, List.set_cons_succ, List.drop_succ_cons, List.drop_zero, List.take_succ_cons, List.take_zero, List.length_cons, List.length_nil, List.reverse_cons, List.reverse_nil, List.nil_append, List.cons_append, Option.toList_some, Option.toList_none, va_rf_s, true_and, and_true, true_implies, false_implies, not_true_eq_false, not_false_eq_true, Nat.reduceAdd, Nat.reduceLeDiff, Nat.le_add_left, Nat.zero_le, Nat.le_refl, znew, true_or, or_true, b01_t, b01_f, b01_ok, bool_ft, vp_b01, vp_b0, vp_b1, b01_eq0, b01_eq1, implies_true, nI_add, nI_clamp, zi_in, zi_le_t, zi_le_f, zi_lt_t, zi_lt_f, zi_eq_t, zi_eq_f, nI_leI, nI_ltI, nI_eq, z_in, pk_mul, zu_same, zu_rw, zu_ix, zi_ne0, zi_sub, zi_m1, Nat.add_sub_cancel, Nat.reduceMul, Nat.reduceSub]
      exact loop2 0 (by omega) S1 (fun a ha => hS1 a (by omega)) hj (fun j hj6 => by rw [if_neg (by omega), hS1 _ (by omega)]; exact t2 j hj6)
    · intro S1 hS1 hj
      have hX1 := hXf (S1 := S1) (fun a ha => hS1 a (by omega))
      have hT1 : tw S1 w t sd T := hT.fr (fun o ho => hS1 _ (by omega))
      refine sX5_goesBy_5 _ _ _ _ _ ?_
      simp (disch := omega) only [oAld, oCV, oGR, oIld, hX.k, hX.r2, hX.z0, hX.z1, hX.z2, hX.z3, List.getElem?_cons_zero, List.getElem?_cons_succ, List.set_cons_zero, List.set_cons_succ, List.drop_succ_cons, List.drop_zero, List.take_succ_cons, List.take_zero, List.length_cons, List.length_nil, List.reverse_cons, List.reverse_nil, List.nil_append, List.cons_append, Option.toList_some, Option.toList_none, va_rf_s, true_and, and_true, true_implies, false_implies, not_true_eq_false, not_false_eq_true, Nat.reduceAdd, Nat.reduceLeDiff, Nat.le_add_left, Nat.zero_le, Nat.le_refl, znew, true_or, or_true, b01_t, b01_f, b01_ok, bool_ft, vp_b01, vp_b0, vp_b1, b01_eq0, b01_eq1, implies_true, nI_add, nI_clamp, zi_in, zi_le_t, zi_le_f, zi_lt_t, zi_lt_f, zi_eq_t, zi_eq_f, nI_leI, nI_ltI, nI_eq, z_in, pk_mul, zu_same, zu_rw, zu_ix, zi_ne0, zi_sub, zi_m1, Nat.add_sub_cancel, Nat.reduceMul, Nat.reduceSub]
      refine zC.of0 (zJ5_size hX1.l2) (by omega) (Nat.zero_le _) (Nat.zero_le _) ?_
      rintro _ _ ⟨rfl, rfl⟩
      refine sX5_goesBy_14 _ _ _ _ _ ?_
      simp (disch := omega) only [oAld, oCV, oGR, oIfc, oIld, oIst, oPush, hW.k, hW.r11, hW.t11, hW.n11, List.getElem?_cons_zero, List.getElem?_cons_succ, List.set_cons_zero, List.set_cons_succ, List.drop_succ_cons, List.drop_zero, List.take_succ_cons, List.take_zero, List.length_cons, List.length_nil, List.reverse_cons, List.reverse_nil, List.nil_append, List.cons_append, Option.toList_some, Option.toList_none, va_rf_s, true_and, and_true, true_implies, false_implies, not_true_eq_false, not_false_eq_true, Nat.reduceAdd, Nat.reduceLeDiff, Nat.le_add_left, Nat.zero_le, Nat.le_refl, znew, true_or, or_true, b01_t, b01_f, b01_ok, bool_ft, vp_b01, vp_b0, vp_b1, b01_eq0, b01_eq1, implies_true, nI_add, nI_clamp, zi_in, zi_le_t, zi_le_f, zi_lt_t, zi_lt_f, zi_eq_t, zi_eq_f, nI_leI, nI_ltI, nI_eq, z_in, pk_mul, zu_same, zu_rw, zu_ix, zi_ne0, zi_sub, zi_m1, Nat.add_sub_cancel, Nat.reduceMul, Nat.reduceSub]
      refine zC.of0 (zX5_cools hW hX1 hk hT1 hI hTI hp) (by omega) (Nat.zero_le _) (Nat.zero_le _) ?_
      rintro _ _ ⟨S2, rfl, hg2, rfl⟩
      rw [hCNy]
      refine sX5_goesBy_30 _ _ _ _ _ ?_
      simp (disch := omega) only [oAld, oAst1, oCV, oIld, hW.k, hW.t11, hW.n11, List.getElem?_cons_zero, List.getElem?_cons_succ, List.set_cons_zero, List.set_cons_succ, List.drop_succ_cons, List.drop_zero, List.take_succ_cons, List.take_zero, List.length_cons, List.length_nil, List.reverse_cons, List.reverse_nil, List.nil_append, List.cons_append, Option.toList_some, Option.toList_none, va_rf_s, true_and, and_true, true_implies, false_implies, not_true_eq_false, not_false_eq_true, Nat.reduceAdd, Nat.reduceLeDiff, Nat.le_add_left, Nat.zero_le, Nat.le_refl, znew, true_or, or_true, b01_t, b01_f, b01_ok, bool_ft, vp_b01, vp_b0, vp_b1, b01_eq0, b01_eq1, implies_true, nI_add, nI_clamp, zi_in, zi_le_t, zi_le_f, zi_lt_t, zi_lt_f, zi_eq_t, zi_eq_f, nI_leI, nI_ltI, nI_eq, z_in, pk_mul, zu_same, zu_rw, zu_ix, zi_ne0, zi_sub, zi_m1, Nat.add_sub_cancel, Nat.reduceMul, Nat.reduceSub]
      have hS3 : ∀ a, a < w + 7 ∨ w + 10 ≤ a → zu S2 (w + 7) p (CN p) a = S a := fun a ha => by rw [zu_rw _ _ (by omega), hg2 a (by omega) (by omega)]; exact hS1 a ha
      have hj3 : ∀ j, j < p + 1 → zu S2 (w + 7) p (CN p) (w + 7) j = CN j := fun j hjp => by
        rw [zu_rowj]
        by_cases he : j = p
        · rw [if_pos he, he]
        · rw [if_neg he, hg2 _ (by omega) (by omega)]; exact hj j (by omega)
      generalize zu S2 (w + 7) p (CN p) = S3 at hS3 hj3 ⊢
      have hX3 := hXf (S1 := S3) (fun a ha => hS3 a (by omega))
      have hT3 : tw S3 w t sd T := hT.fr (fun o ho => hS3 _ (by omega))
      refine zC.of0 (zX5_leaves hW hX3 hk hT3 hI hTI hp) (by omega) (Nat.zero_le _) (Nat.zero_le _) ?_
      rintro _ _ ⟨S4, rfl, hg4, rfl⟩
      rw [hLVy]
      have hS4 : ∀ a, a < w + 7 ∨ w + 10 ≤ a → S4 a = S a := fun a ha => by rw [hg4 a (by omega) (by omega)]; exact hS3 a ha
      have hj4 : ∀ j, j < p + 1 → S4 (w + 7) j = CN j := fun j hjp => by rw [hg4 _ (by omega) (by omega)]; exact hj3 j hjp
      cases hl : LV p with
      | true =>
        rw [setF_t hl] at ih
        refine sX5_goesBy_39 _ _ _ _ _ ?_
        simp (disch := omega) only [oBin, oIf, oIld, oInc, oIst, oNop, oPush, hbit, List.getElem?_cons_zero, List.getElem?_cons_succ, List.set_cons_zero, List.set_cons_succ, List.drop_succ_cons, List.drop_zero, List.take_succ_cons, List.take_zero, List.length_cons, List.length_nil, List.reverse_cons, List.reverse_nil, List.nil_append, List.cons_append, Option.toList_some, Option.toList_none, va_rf_s, true_and, and_true, true_implies, false_implies, not_true_eq_false, not_false_eq_true, Nat.reduceAdd, Nat.reduceLeDiff, Nat.le_add_left, Nat.zero_le, Nat.le_refl, znew, true_or, or_true, b01_t, b01_f, b01_ok, bool_ft, vp_b01, vp_b0, vp_b1, b01_eq0, b01_eq1, implies_true, nI_add, nI_clamp, zi_in, zi_le_t, zi_le_f, zi_lt_t, zi_lt_f, zi_eq_t, zi_eq_f, nI_leI, nI_ltI, nI_eq, z_in, pk_mul, zu_same, zu_rw, zu_ix, zi_ne0, zi_sub, zi_m1, Nat.add_sub_cancel, Nat.reduceMul, Nat.reduceSub]
        exact ih S4 hS4 hj4
      | false =>
        rw [setF_f (by rw [hl]; decide)] at ih
        refine sX5_goesBy_39 _ _ _ _ _ ?_
        simp (disch := omega) only [oBin, oIf, oIld, oInc, oIst, oNop, oPush, i_or0, List.getElem?_cons_zero, List.getElem?_cons_succ, List.set_cons_zero, List.set_cons_succ, List.drop_succ_cons, List.drop_zero, List.take_succ_cons, List.take_zero, List.length_cons, List.length_nil, List.reverse_cons, List.reverse_nil, List.nil_append, List.cons_append, Option.toList_some, Option.toList_none, va_rf_s, true_and, and_true, true_implies, false_implies, not_true_eq_false, not_false_eq_true, Nat.reduceAdd, Nat.reduceLeDiff, Nat.le_add_left, Nat.zero_le, Nat.le_refl, znew, true_or, or_true, b01_t, b01_f, b01_ok, bool_ft, vp_b01, vp_b0, vp_b1, b01_eq0, b01_eq1, implies_true, nI_add, nI_clamp, zi_in, zi_le_t, zi_le_f, zi_lt_t, zi_lt_f, zi_eq_t, zi_eq_f, nI_leI, nI_ltI, nI_eq, z_in, pk_mul, zu_same, zu_rw, zu_ix, zi_ne0, zi_sub, zi_m1, Nat.add_sub_cancel, Nat.reduceMul, Nat.reduceSub]
        exact ih S4 hS4 hj4
  refine sX5_goesBy_0 _ _ _ _ _ ?_
  simp (disch := omega) only [oIst, oPush, List.getElem?_cons_zero, List.getElem?_cons_succ, List.set_cons_zero, List.set_cons_succ, List.drop_succ_cons, List.drop_zero, List.take_succ_cons, List.take_zero, List.length_cons, List.length_nil, List.reverse_cons, List.reverse_nil, List.nil_append, List.cons_append, Option.toList_some, Option.toList_none, va_rf_s, true_and, and_true, true_implies, false_implies, not_true_eq_false, not_false_eq_true, Nat.reduceAdd, Nat.reduceLeDiff, Nat.le_add_left, Nat.zero_le, Nat.le_refl, znew, true_or, or_true, b01_t, b01_f, b01_ok, bool_ft, vp_b01, vp_b0, vp_b1, b01_eq0, b01_eq1, implies_true, nI_add, nI_clamp, zi_in, zi_le_t, zi_le_f, zi_lt_t, zi_lt_f, zi_eq_t, zi_eq_f, nI_leI, nI_ltI, nI_eq, z_in, pk_mul, zu_same, zu_rw, zu_ix, zi_ne0, zi_sub, zi_m1, Nat.add_sub_cancel, Nat.reduceMul, Nat.reduceSub]
  exact loop1 0 (by omega) S (fun _ _ => rfl) (fun j hj => by omega)
end CH
