/-! the model's methods, D: what laws tell, words, hours -/
theorem tev_congr {v v' : Nat → Int32} (hv : ∀ j, j < 9 → v j = v' j) : ∀ (cl : List (Nat × Int32)) (d r : Nat) (st : List Int32), tdep cl d = some r → tev v cl st = tev v' cl st := by
  intro cl
  induction cl with
  | nil => intro d r st _; rfl
  | cons q cl ih =>
    intro d r st hd
    obtain ⟨k, x⟩ := q
    have hs : tstep v (k, x) st = tstep v' (k, x) st := by
      unfold tstep
      by_cases h0 : k = 0
      · simp [h0]
      · by_cases h1 : k = 1
        · subst h1
          unfold tdep at hd
          rw [if_neg (by simp), if_pos rfl] at hd
          split at hd
          · next hok =>
            obtain ⟨j, hj, rfl⟩ := (okI_iff (by omega)).mp hok
            simp [nI_clamp (show j < 2 ^ 31 by omega), hv j hj]
          · cases hd
        · simp [h0, h1]
    have hd' : ∃ d', tdep cl d' = some r := by
      unfold tdep at hd
      split at hd
      · exact ⟨_, hd⟩
      · split at hd
        · split at hd
          · exact ⟨_, hd⟩
          · cases hd
        · split at hd
          · exact ⟨_, hd⟩
          · cases hd
    obtain ⟨d', hd'⟩ := hd'
    rw [tev, tev, hs]
    cases tstep v' (k, x) st with
    | none => rfl
    | some st' => exact ih d' r st' hd'
def lawOK (law : List zBr3) : Prop := ∀ q ∈ law, (q.1 = true → cOK q.2.1 ∧ cOK q.2.2.1) ∧ cOK q.2.2.2
theorem brsAt.ok {b : Nat} {S : Nat → Nat → Int32} : ∀ {qs : List zBr3} {j : Nat}, brsAt b S j qs → lawOK qs
  | [], _, _ => fun q hq => by cases hq
  | q :: qs, j, h => by
    intro q' hq'
    rcases List.mem_cons.mp hq' with rfl | hq'
    · obtain ⟨-, f, m, t, e, h1, -, -, -, -, h3⟩ := h.1
      exact ⟨fun ht => ⟨(h1 ht).2.1.2.2.2, (h1 ht).2.2.2.2.2⟩, h3⟩
    · exact brsAt.ok h.2 q' hq'
theorem lawAt.ok {b p : Nat} {S : Nat → Nat → Int32} {law : List zBr3} (h : lawAt b S p law) : lawOK law := by
  obtain ⟨f, -, -, -, h⟩ := h
  exact h.ok
theorem lawEv_congr {v v' : Nat → Int32} (hv : ∀ j, j < 9 → v j = v' j) : ∀ (qs : List zBr3), lawOK qs → lawEv v qs = lawEv v' qs := by
  intro qs
  induction qs with
  | nil => intro _; rfl
  | cons q qs ih =>
    intro hok
    have h0 := hok q List.mem_cons_self
    have ih := ih (fun q' hq' => hok q' (List.mem_cons_of_mem _ hq'))
    rw [lawEv, lawEv, ih, tev_congr hv q.2.2.2 0 1 [] h0.2.1]
    by_cases ht : q.1 = true
    · rw [tev_congr hv q.2.1 0 1 [] (h0.1 ht).1.1, tev_congr hv q.2.2.1 0 1 [] (h0.1 ht).2.1]
    · rw [if_neg ht, if_neg ht]
theorem lawF_congr {v v' : Nat → Int32} (hv : ∀ j, j < 9 → v j = v' j) {plain : Int32} {law : List zBr3} (hok : lawOK law) : lawF v plain law = lawF v' plain law := by
  cases law with
  | nil => rfl
  | cons q qs => exact lawEv_congr hv _ hok
theorem brsAt.fr {b : Nat} {S S' : Nat → Nat → Int32} (he : ∀ o, 24 ≤ o → o ≤ 32 → S' (b + o) = S (b + o)) : ∀ {qs : List zBr3} {j : Nat}, brsAt b S j qs → brsAt b S' j qs
  | [], _, _ => trivial
  | q :: qs, j, h => by
    refine ⟨?_, brsAt.fr he h.2⟩
    have := h.1
    unfold brAt at this ⊢
    rw [he 26 (by omega) (by omega), he 27 (by omega) (by omega), he 28 (by omega) (by omega), he 29 (by omega) (by omega), he 30 (by omega) (by omega), he 31 (by omega) (by omega), he 32 (by omega) (by omega)]
    exact this
theorem lawAt.fr {b p : Nat} {S S' : Nat → Nat → Int32} {D F : List Nat} {law : List zBr3} (h : lawAt b S p law) (hf : zfr D F b S S') (hD : D.all (fun x => decide (x < 24 ∨ 32 < x)) = true) : lawAt b S' p law := by
  have he : ∀ o, 24 ≤ o → o ≤ 32 → S' (b + o) = S (b + o) := by
    intro o h1 h2
    refine hf.1 (b + o) (by omega) (fun x hx => ?_)
    have := List.all_eq_true.mp hD x hx
    simp at this
    omega
  obtain ⟨f, h1, h2, h3, h4⟩ := h
  exact ⟨f, by rw [he 24 (by omega) (by omega)]; exact h1, by rw [he 25 (by omega) (by omega)]; exact h2, h3, h4.fr he⟩
/-- the laws of the side lv -/
def mL (b : Nat) (S : Nat → Nat → Int32) (lv : Nat) (lw : Nat → List zBr3) : Prop := ∀ k, k < 4 → lawAt b S (4 * lv + k) (lw k)
theorem mL.fr {b lv : Nat} {S S' : Nat → Nat → Int32} {D F : List Nat} {lw : Nat → List zBr3} (h : mL b S lv lw) (hf : zfr D F b S S') (hD : D.all (fun x => decide (x < 24 ∨ 32 < x)) = true) : mL b S' lv lw := fun k hk => (h k hk).fr hf hD
/-- ages and tempers of the side lv -/
def mA (b : Nat) (S : Nat → Nat → Int32) (lv ny : Nat) (ag te : Nat → Int32) : Prop := ∀ y, y < ny → S (b + 16) (6 * lv + y) = ag y ∧ S (b + 17) (6 * lv + y) = te y
theorem mA.fr {b lv ny : Nat} {S S' : Nat → Nat → Int32} {D F : List Nat} {ag te : Nat → Int32} (h : mA b S lv ny ag te) (hf : zfr D F b S S') (h1 : D.all (fun x => !(x == 16)) = true) (h2 : D.all (fun x => !(x == 17)) = true) : mA b S' lv ny ag te := by
  intro y hy
  rw [hf.at h1 rfl, hf.at h2 rfl]
  exact h y hy
section Spec
variable (ag te : Nat → Int32) (lw : Nat → List zBr3) (R : Nat → Int32)
def glowsF (y w : Nat) : Int32 := withinF (lawF (varsF (ag y) (te y) R y (R (36 + w)) (R (41 + w))) (R (36 + w)) (lw 0)) (nI 0) (nI 99)
def wearsF (y w : Nat) : Int32 := withinF (lawF (varsF (ag y) (te y) R y (R (36 + w)) (R (41 + w))) (nI 1) (lw 1)) (nI 0) (nI 99)
def coolsF (y : Nat) : Int32 := withinF (lawF (varsF (ag y) (te y) R y (nI 0) (nI 0)) (nI 0) (lw 2)) (nI 0) (nI 99)
def leavesF (y : Nat) : Bool := decide (R (12 + y) = nI 0) && decide (nI 0 < lawF (varsF (ag y) (te y) R y (nI 0) (nI 0)) (nI 0) (lw 3))
end Spec
section MD
variable {l : Launch} {E : zE} {b z : Nat} {h : Nat → Option zSh} {S : Nat → Nat → Int32} {L : Nat → Nat → Int64} {lv nc ns ny nw : Nat} {lw : Nat → List zBr3} {ag te : Nat → Int32}
theorem zX10_glowsOf (hM : isM h b) (hT : mT b S lv nc ns ny nw) (hL : mL b S lv lw) (hA : mA b S lv ny ag te) {y w : Nat} (hy : y < ny) (hw : w < 5) :
    zM l E 2 YX10_glowsOf [.ref b, .int (nI y), .int (nI w)] (z, h, S, L) 0 0 (fun r X => ∃ S', X = (z, h, S', L) ∧ zfr [34, 35] [52] b S S' ∧ r = some (.int (glowsF ag te lw (S (b + 37)) y w))) (fun _ _ => False) := by
  have hny6 : ny ≤ 6 := hT.2.2.2.1.2
  refine zM.go rfl rfl (Nat.le_of_ble_eq_true rfl) (ls := [some (.ref b), some (.int (nI y)), some (.int (nI w))]) rfl ?_
  intro V hVl hVE hVd hVc hVs hVQ hVX
  refine sX10_glowsOf_0 _ _ _ _ _ ?_
  simp (disch := omega) only [oAld, oAld1, oBin, oCV, oGR, oIld, oPush, hM.1, hM.r54, hM.t54, hM.n54, List.getElem?_cons_zero, List.getElem?_cons_succ, List.set_cons_zero, List.set_cons_succ, List.drop_succ_cons, List.drop_zero, List.take_succ_cons, List.take_zero, List.length_cons, List.length_nil, List.reverse_cons, List.reverse_nil, List.nil_append, List.cons_append, Option.toList_some, Option.toList_none, va_rf_s, true_and, and_true, true_implies, false_implies, not_true_eq_false, not_false_eq_true, Nat.reduceAdd, Nat.reduceLeDiff, Nat.le_add_left, Nat.zero_le, Nat.le_refl, znew, true_or, or_true, b01_t, b01_f, b01_ok, bool_ft, vp_b01, vp_b0, vp_b1, b01_eq0, b01_eq1, implies_true, nI_add, nI_clamp, zi_in, zi_le_t, zi_le_f, zi_lt_t, zi_lt_f, zi_eq_t, zi_eq_f, nI_leI, nI_ltI, nI_eq, z_in, pk_mul, zu_same, zu_rw, zu_ix, zi_ne0, zi_sub, zi_m1, Nat.add_sub_cancel, Nat.reduceMul, Nat.reduceSub]
  refine zC.of0 (zX10_looks hM hT (show y < 6 by omega) _ _) (by omega) (Nat.zero_le _) (Nat.zero_le _) ?_
  rintro _ _ ⟨rfl, S1, rfl, hf1, hv⟩
  refine sX10_glowsOf_23 _ _ _ _ _ ?_
  simp (disch := omega) only [oAld, oAld1, oBin, oCV, oGR, oIld, oPush, hM.1, hM.r54, hM.t54, hM.n54, hf1.at (o := 37) rfl rfl, List.getElem?_cons_zero, List.getElem?_cons_succ, List.set_cons_zero, List.set_cons_succ, List.drop_succ_cons, List.drop_zero, List.take_succ_cons, List.take_zero, List.length_cons, List.length_nil, List.reverse_cons, List.reverse_nil, List.nil_append, List.cons_append, Option.toList_some, Option.toList_none, va_rf_s, true_and, and_true, true_implies, false_implies, not_true_eq_false, not_false_eq_true, Nat.reduceAdd, Nat.reduceLeDiff, Nat.le_add_left, Nat.zero_le, Nat.le_refl, znew, true_or, or_true, b01_t, b01_f, b01_ok, bool_ft, vp_b01, vp_b0, vp_b1, b01_eq0, b01_eq1, implies_true, nI_add, nI_clamp, zi_in, zi_le_t, zi_le_f, zi_lt_t, zi_lt_f, zi_eq_t, zi_eq_f, nI_leI, nI_ltI, nI_eq, z_in, pk_mul, zu_same, zu_rw, zu_ix, zi_ne0, zi_sub, zi_m1, Nat.add_sub_cancel, Nat.reduceMul, Nat.reduceSub]
  refine zC.of0 (zX10_lawTells hM (hT.fr hf1 rfl rfl) (by omega) _ ((hL.fr hf1 rfl) 0 (by omega))) (by omega) (Nat.zero_le _) (Nat.zero_le _) ?_
  rintro _ _ ⟨S2, rfl, hf2, rfl⟩
  refine sX10_glowsOf_37 _ _ _ _ _ ?_
  simp (disch := omega) only [oCS, oPush, List.getElem?_cons_zero, List.getElem?_cons_succ, List.set_cons_zero, List.set_cons_succ, List.drop_succ_cons, List.drop_zero, List.take_succ_cons, List.take_zero, List.length_cons, List.length_nil, List.reverse_cons, List.reverse_nil, List.nil_append, List.cons_append, Option.toList_some, Option.toList_none, va_rf_s, true_and, and_true, true_implies, false_implies, not_true_eq_false, not_false_eq_true, Nat.reduceAdd, Nat.reduceLeDiff, Nat.le_add_left, Nat.zero_le, Nat.le_refl, znew, true_or, or_true, b01_t, b01_f, b01_ok, bool_ft, vp_b01, vp_b0, vp_b1, b01_eq0, b01_eq1, implies_true, nI_add, nI_clamp, zi_in, zi_le_t, zi_le_f, zi_lt_t, zi_lt_f, zi_eq_t, zi_eq_f, nI_leI, nI_ltI, nI_eq, z_in, pk_mul, zu_same, zu_rw, zu_ix, zi_ne0, zi_sub, zi_m1, Nat.add_sub_cancel, Nat.reduceMul, Nat.reduceSub]
  refine zC.of0 (zX10_within _ _ _ _) (by omega) (Nat.zero_le _) (Nat.zero_le _) ?_
  rintro _ _ ⟨rfl, rfl⟩
  refine sX10_glowsOf_43 _ _ _ _ _ ?_
  simp (disch := omega) only [oRI, List.getElem?_cons_zero, List.getElem?_cons_succ, List.set_cons_zero, List.set_cons_succ, List.drop_succ_cons, List.drop_zero, List.take_succ_cons, List.take_zero, List.length_cons, List.length_nil, List.reverse_cons, List.reverse_nil, List.nil_append, List.cons_append, Option.toList_some, Option.toList_none, va_rf_s, true_and, and_true, true_implies, false_implies, not_true_eq_false, not_false_eq_true, Nat.reduceAdd, Nat.reduceLeDiff, Nat.le_add_left, Nat.zero_le, Nat.le_refl, znew, true_or, or_true, b01_t, b01_f, b01_ok, bool_ft, vp_b01, vp_b0, vp_b1, b01_eq0, b01_eq1, implies_true, nI_add, nI_clamp, zi_in, zi_le_t, zi_le_f, zi_lt_t, zi_lt_f, zi_eq_t, zi_eq_f, nI_leI, nI_ltI, nI_eq, z_in, pk_mul, zu_same, zu_rw, zu_ix, zi_ne0, zi_sub, zi_m1, Nat.add_sub_cancel, Nat.reduceMul, Nat.reduceSub]
  refine hVQ _ _ ⟨S2, rfl, hf1.tr hf2 rfl rfl rfl rfl, ?_⟩
  rw [lawF_congr hv (hL 0 (by omega)).ok, (hA y hy).1, (hA y hy).2]
  rfl
theorem zX10_wearsOf (hM : isM h b) (hT : mT b S lv nc ns ny nw) (hL : mL b S lv lw) (hA : mA b S lv ny ag te) {y w : Nat} (hy : y < ny) (hw : w < 5) :
    zM l E 2 YX10_wearsOf [.ref b, .int (nI y), .int (nI w)] (z, h, S, L) 0 0 (fun r X => ∃ S', X = (z, h, S', L) ∧ zfr [34, 35] [52] b S S' ∧ r = some (.int (wearsF ag te lw (S (b + 37)) y w))) (fun _ _ => False) := by
  have hny6 : ny ≤ 6 := hT.2.2.2.1.2
  refine zM.go rfl rfl (Nat.le_of_ble_eq_true rfl) (ls := [some (.ref b), some (.int (nI y)), some (.int (nI w))]) rfl ?_
  intro V hVl hVE hVd hVc hVs hVQ hVX
  refine sX10_wearsOf_0 _ _ _ _ _ ?_
  simp (disch := omega) only [oAld, oAld1, oBin, oCV, oGR, oIld, oPush, hM.1, hM.r54, hM.t54, hM.n54, List.getElem?_cons_zero, List.getElem?_cons_succ, List.set_cons_zero, List.set_cons_succ, List.drop_succ_cons, List.drop_zero, List.take_succ_cons, List.take_zero, List.length_cons, List.length_nil, List.reverse_cons, List.reverse_nil, List.nil_append, List.cons_append, Option.toList_some, Option.toList_none, va_rf_s, true_and, and_true, true_implies, false_implies, not_true_eq_false, not_false_eq_true, Nat.reduceAdd, Nat.reduceLeDiff, Nat.le_add_left, Nat.zero_le, Nat.le_refl, znew, true_or, or_true, b01_t, b01_f, b01_ok, bool_ft, vp_b01, vp_b0, vp_b1, b01_eq0, b01_eq1, implies_true, nI_add, nI_clamp, zi_in, zi_le_t, zi_le_f, zi_lt_t, zi_lt_f, zi_eq_t, zi_eq_f, nI_leI, nI_ltI, nI_eq, z_in, pk_mul, zu_same, zu_rw, zu_ix, zi_ne0, zi_sub, zi_m1, Nat.add_sub_cancel, Nat.reduceMul, Nat.reduceSub]
  refine zC.of0 (zX10_looks hM hT (show y < 6 by omega) _ _) (by omega) (Nat.zero_le _) (Nat.zero_le _) ?_
  rintro _ _ ⟨rfl, S1, rfl, hf1, hv⟩
  refine sX10_wearsOf_23 _ _ _ _ _ ?_
  simp (disch := omega) only [oAld, oCV, oPush, hM.1, hf1.at (o := 37) rfl rfl, List.getElem?_cons_zero, List.getElem?_cons_succ, List.set_cons_zero, List.set_cons_succ, List.drop_succ_cons, List.drop_zero, List.take_succ_cons, List.take_zero, List.length_cons, List.length_nil, List.reverse_cons, List.reverse_nil, List.nil_append, List.cons_append, Option.toList_some, Option.toList_none, va_rf_s, true_and, and_true, true_implies, false_implies, not_true_eq_false, not_false_eq_true, Nat.reduceAdd, Nat.reduceLeDiff, Nat.le_add_left, Nat.zero_le, Nat.le_refl, znew, true_or, or_true, b01_t, b01_f, b01_ok, bool_ft, vp_b01, vp_b0, vp_b1, b01_eq0, b01_eq1, implies_true, nI_add, nI_clamp, zi_in, zi_le_t, zi_le_f, zi_lt_t, zi_lt_f, zi_eq_t, zi_eq_f, nI_leI, nI_ltI, nI_eq, z_in, pk_mul, zu_same, zu_rw, zu_ix, zi_ne0, zi_sub, zi_m1, Nat.add_sub_cancel, Nat.reduceMul, Nat.reduceSub]
  refine zC.of0 (zX10_lawTells hM (hT.fr hf1 rfl rfl) (by omega) _ ((hL.fr hf1 rfl) 1 (by omega))) (by omega) (Nat.zero_le _) (Nat.zero_le _) ?_
  rintro _ _ ⟨S2, rfl, hf2, rfl⟩
  refine sX10_wearsOf_29 _ _ _ _ _ ?_
  simp (disch := omega) only [oCS, oPush, List.getElem?_cons_zero, List.getElem?_cons_succ, List.set_cons_zero, List.set_cons_succ, List.drop_succ_cons, List.drop_zero, List.take_succ_cons, List.take_zero, List.length_cons, List.length_nil, List.reverse_cons, List.reverse_nil, List.nil_append, List.cons_append, Option.toList_some, Option.toList_none, va_rf_s, true_and, and_true, true_implies, false_implies, not_true_eq_false, not_false_eq_true, Nat.reduceAdd, Nat.reduceLeDiff, Nat.le_add_left, Nat.zero_le, Nat.le_refl, znew, true_or, or_true, b01_t, b01_f, b01_ok, bool_ft, vp_b01, vp_b0, vp_b1, b01_eq0, b01_eq1, implies_true, nI_add, nI_clamp, zi_in, zi_le_t, zi_le_f, zi_lt_t, zi_lt_f, zi_eq_t, zi_eq_f, nI_leI, nI_ltI, nI_eq, z_in, pk_mul, zu_same, zu_rw, zu_ix, zi_ne0, zi_sub, zi_m1, Nat.add_sub_cancel, Nat.reduceMul, Nat.reduceSub]
  refine zC.of0 (zX10_within _ _ _ _) (by omega) (Nat.zero_le _) (Nat.zero_le _) ?_
  rintro _ _ ⟨rfl, rfl⟩
  refine sX10_wearsOf_35 _ _ _ _ _ ?_
  simp (disch := omega) only [oRI, List.getElem?_cons_zero, List.getElem?_cons_succ, List.set_cons_zero, List.set_cons_succ, List.drop_succ_cons, List.drop_zero, List.take_succ_cons, List.take_zero, List.length_cons, List.length_nil, List.reverse_cons, List.reverse_nil, List.nil_append, List.cons_append, Option.toList_some, Option.toList_none, va_rf_s, true_and, and_true, true_implies, false_implies, not_true_eq_false, not_false_eq_true, Nat.reduceAdd, Nat.reduceLeDiff, Nat.le_add_left, Nat.zero_le, Nat.le_refl, znew, true_or, or_true, b01_t, b01_f, b01_ok, bool_ft, vp_b01, vp_b0, vp_b1, b01_eq0, b01_eq1, implies_true, nI_add, nI_clamp, zi_in, zi_le_t, zi_le_f, zi_lt_t, zi_lt_f, zi_eq_t, zi_eq_f, nI_leI, nI_ltI, nI_eq, z_in, pk_mul, zu_same, zu_rw, zu_ix, zi_ne0, zi_sub, zi_m1, Nat.add_sub_cancel, Nat.reduceMul, Nat.reduceSub]
  refine hVQ _ _ ⟨S2, rfl, hf1.tr hf2 rfl rfl rfl rfl, ?_⟩
  rw [lawF_congr hv (hL 1 (by omega)).ok, (hA y hy).1, (hA y hy).2]
  rfl
theorem zX10_coolsOf (hM : isM h b) (hT : mT b S lv nc ns ny nw) (hL : mL b S lv lw) (hA : mA b S lv ny ag te) {y : Nat} (hy : y < ny) :
    zM l E 2 YX10_coolsOf [.ref b, .int (nI y)] (z, h, S, L) 0 0 (fun r X => ∃ S', X = (z, h, S', L) ∧ zfr [34, 35] [52] b S S' ∧ r = some (.int (coolsF ag te lw (S (b + 37)) y))) (fun _ _ => False) := by
  have hny6 : ny ≤ 6 := hT.2.2.2.1.2
  refine zM.go rfl rfl (Nat.le_of_ble_eq_true rfl) (ls := [some (.ref b), some (.int (nI y))]) rfl ?_
  intro V hVl hVE hVd hVc hVs hVQ hVX
  refine sX10_coolsOf_0 _ _ _ _ _ ?_
  simp (disch := omega) only [oAld, oCV, oIld, oPush, hM.1, List.getElem?_cons_zero, List.getElem?_cons_succ, List.set_cons_zero, List.set_cons_succ, List.drop_succ_cons, List.drop_zero, List.take_succ_cons, List.take_zero, List.length_cons, List.length_nil, List.reverse_cons, List.reverse_nil, List.nil_append, List.cons_append, Option.toList_some, Option.toList_none, va_rf_s, true_and, and_true, true_implies, false_implies, not_true_eq_false, not_false_eq_true, Nat.reduceAdd, Nat.reduceLeDiff, Nat.le_add_left, Nat.zero_le, Nat.le_refl, znew, true_or, or_true, b01_t, b01_f, b01_ok, bool_ft, vp_b01, vp_b0, vp_b1, b01_eq0, b01_eq1, implies_true, nI_add, nI_clamp, zi_in, zi_le_t, zi_le_f, zi_lt_t, zi_lt_f, zi_eq_t, zi_eq_f, nI_leI, nI_ltI, nI_eq, z_in, pk_mul, zu_same, zu_rw, zu_ix, zi_ne0, zi_sub, zi_m1, Nat.add_sub_cancel, Nat.reduceMul, Nat.reduceSub]
  refine zC.of0 (zX10_looks hM hT (show y < 6 by omega) _ _) (by omega) (Nat.zero_le _) (Nat.zero_le _) ?_
  rintro _ _ ⟨rfl, S1, rfl, hf1, hv⟩
  refine sX10_coolsOf_7 _ _ _ _ _ ?_
  simp (disch := omega) only [oAld, oCV, oPush, hM.1, hf1.at (o := 37) rfl rfl, List.getElem?_cons_zero, List.getElem?_cons_succ, List.set_cons_zero, List.set_cons_succ, List.drop_succ_cons, List.drop_zero, List.take_succ_cons, List.take_zero, List.length_cons, List.length_nil, List.reverse_cons, List.reverse_nil, List.nil_append, List.cons_append, Option.toList_some, Option.toList_none, va_rf_s, true_and, and_true, true_implies, false_implies, not_true_eq_false, not_false_eq_true, Nat.reduceAdd, Nat.reduceLeDiff, Nat.le_add_left, Nat.zero_le, Nat.le_refl, znew, true_or, or_true, b01_t, b01_f, b01_ok, bool_ft, vp_b01, vp_b0, vp_b1, b01_eq0, b01_eq1, implies_true, nI_add, nI_clamp, zi_in, zi_le_t, zi_le_f, zi_lt_t, zi_lt_f, zi_eq_t, zi_eq_f, nI_leI, nI_ltI, nI_eq, z_in, pk_mul, zu_same, zu_rw, zu_ix, zi_ne0, zi_sub, zi_m1, Nat.add_sub_cancel, Nat.reduceMul, Nat.reduceSub]
  refine zC.of0 (zX10_lawTells hM (hT.fr hf1 rfl rfl) (by omega) _ ((hL.fr hf1 rfl) 2 (by omega))) (by omega) (Nat.zero_le _) (Nat.zero_le _) ?_
  rintro _ _ ⟨S2, rfl, hf2, rfl⟩
  refine sX10_coolsOf_13 _ _ _ _ _ ?_
  simp (disch := omega) only [oCS, oPush, List.getElem?_cons_zero, List.getElem?_cons_succ, List.set_cons_zero, List.set_cons_succ, List.drop_succ_cons, List.drop_zero, List.take_succ_cons, List.take_zero, List.length_cons, List.length_nil, List.reverse_cons, List.reverse_nil, List.nil_append, List.cons_append, Option.toList_some, Option.toList_none, va_rf_s, true_and, and_true, true_implies, false_implies, not_true_eq_false, not_false_eq_true, Nat.reduceAdd, Nat.reduceLeDiff, Nat.le_add_left, Nat.zero_le, Nat.le_refl, znew, true_or, or_true, b01_t, b01_f, b01_ok, bool_ft, vp_b01, vp_b0, vp_b1, b01_eq0, b01_eq1, implies_true, nI_add, nI_clamp, zi_in, zi_le_t, zi_le_f, zi_lt_t, zi_lt_f, zi_eq_t, zi_eq_f, nI_leI, nI_ltI, nI_eq, z_in, pk_mul, zu_same, zu_rw, zu_ix, zi_ne0, zi_sub, zi_m1, Nat.add_sub_cancel, Nat.reduceMul, Nat.reduceSub]
  refine zC.of0 (zX10_within _ _ _ _) (by omega) (Nat.zero_le _) (Nat.zero_le _) ?_
  rintro _ _ ⟨rfl, rfl⟩
  refine sX10_coolsOf_19 _ _ _ _ _ ?_
  simp (disch := omega) only [oRI, List.getElem?_cons_zero, List.getElem?_cons_succ, List.set_cons_zero, List.set_cons_succ, List.drop_succ_cons, List.drop_zero, List.take_succ_cons, List.take_zero, List.length_cons, List.length_nil, List.reverse_cons, List.reverse_nil, List.nil_append, List.cons_append, Option.toList_some, Option.toList_none, va_rf_s, true_and, and_true, true_implies, false_implies, not_true_eq_false, not_false_eq_true, Nat.reduceAdd, Nat.reduceLeDiff, Nat.le_add_left, Nat.zero_le, Nat.le_refl, znew, true_or, or_true, b01_t, b01_f, b01_ok, bool_ft, vp_b01, vp_b0, vp_b1, b01_eq0, b01_eq1, implies_true, nI_add, nI_clamp, zi_in, zi_le_t, zi_le_f, zi_lt_t, zi_lt_f, zi_eq_t, zi_eq_f, nI_leI, nI_ltI, nI_eq, z_in, pk_mul, zu_same, zu_rw, zu_ix, zi_ne0, zi_sub, zi_m1, Nat.add_sub_cancel, Nat.reduceMul, Nat.reduceSub]
  refine hVQ _ _ ⟨S2, rfl, hf1.tr hf2 rfl rfl rfl rfl, ?_⟩
  rw [lawF_congr hv (hL 2 (by omega)).ok, (hA y hy).1, (hA y hy).2]
  rfl
theorem zX10_doesLeave (hM : isM h b) (hT : mT b S lv nc ns ny nw) (hL : mL b S lv lw) (hA : mA b S lv ny ag te) {y : Nat} (hy : y < ny) :
    zM l E 2 YX10_doesLeave [.ref b, .int (nI y)] (z, h, S, L) 0 0 (fun r X => ∃ S', X = (z, h, S', L) ∧ zfr [34, 35] [52] b S S' ∧ r = some (.int (b01 (leavesF ag te lw (S (b + 37)) y)))) (fun _ _ => False) := by
  have hny6 : ny ≤ 6 := hT.2.2.2.1.2
  refine zM.go rfl rfl (Nat.le_of_ble_eq_true rfl) (ls := [some (.ref b), some (.int (nI y))]) rfl ?_
  intro V hVl hVE hVd hVc hVs hVQ hVX
  refine sX10_doesLeave_0 _ _ _ _ _ ?_
  simp (disch := omega) only [oAld, oCV, oIld, oPush, hM.1, List.getElem?_cons_zero, List.getElem?_cons_succ, List.set_cons_zero, List.set_cons_succ, List.drop_succ_cons, List.drop_zero, List.take_succ_cons, List.take_zero, List.length_cons, List.length_nil, List.reverse_cons, List.reverse_nil, List.nil_append, List.cons_append, Option.toList_some, Option.toList_none, va_rf_s, true_and, and_true, true_implies, false_implies, not_true_eq_false, not_false_eq_true, Nat.reduceAdd, Nat.reduceLeDiff, Nat.le_add_left, Nat.zero_le, Nat.le_refl, znew, true_or, or_true, b01_t, b01_f, b01_ok, bool_ft, vp_b01, vp_b0, vp_b1, b01_eq0, b01_eq1, implies_true, nI_add, nI_clamp, zi_in, zi_le_t, zi_le_f, zi_lt_t, zi_lt_f, zi_eq_t, zi_eq_f, nI_leI, nI_ltI, nI_eq, z_in, pk_mul, zu_same, zu_rw, zu_ix, zi_ne0, zi_sub, zi_m1, Nat.add_sub_cancel, Nat.reduceMul, Nat.reduceSub]
  refine zC.of0 (zX10_looks hM hT (show y < 6 by omega) _ _) (by omega) (Nat.zero_le _) (Nat.zero_le _) ?_
  rintro _ _ ⟨rfl, S1, rfl, hf1, hv⟩
  refine sX10_doesLeave_7 _ _ _ _ _ ?_
  simp (disch := omega) only [oAld, oAld1, oBin, oCV, oGR, oIf, oIld, oPush, oRZ, hM.1, hM.r54, hM.t54, hM.n54, hf1.at (o := 37) rfl rfl, List.getElem?_cons_zero, List.getElem?_cons_succ, List.set_cons_zero, List.set_cons_succ, List.drop_succ_cons, List.drop_zero, List.take_succ_cons, List.take_zero, List.length_cons, List.length_nil, List.reverse_cons, List.reverse_nil, List.nil_append, List.cons_append, Option.toList_some, Option.toList_none, va_rf_s, true_and, and_true, true_implies, false_implies, not_true_eq_false, not_false_eq_true, Nat.reduceAdd, Nat.reduceLeDiff, Nat.le_add_left, Nat.zero_le, Nat.le_refl, znew, true_or, or_true, b01_t, b01_f, b01_ok, bool_ft, vp_b01, vp_b0, vp_b1, b01_eq0, b01_eq1, implies_true, nI_add, nI_clamp, zi_in, zi_le_t, zi_le_f, zi_lt_t, zi_lt_f, zi_eq_t, zi_eq_f, nI_leI, nI_ltI, nI_eq, z_in, pk_mul, zu_same, zu_rw, zu_ix, zi_ne0, zi_sub, zi_m1, Nat.add_sub_cancel, Nat.reduceMul, Nat.reduceSub]
  refine ⟨fun hc => ?_, fun hc => ?_⟩
  · refine zC.of0 (zX10_lawTells hM (hT.fr hf1 rfl rfl) (by omega) _ ((hL.fr hf1 rfl) 3 (by omega))) (by omega) (Nat.zero_le _) (Nat.zero_le _) ?_
    rintro _ _ ⟨S2, rfl, hf2, rfl⟩
    refine sX10_doesLeave_25 _ _ _ _ _ ?_
    simp (disch := omega) only [oIf, oNop, oPush, oRZ, List.getElem?_cons_zero, List.getElem?_cons_succ, List.set_cons_zero, List.set_cons_succ, List.drop_succ_cons, List.drop_zero, List.take_succ_cons, List.take_zero, List.length_cons, List.length_nil, List.reverse_cons, List.reverse_nil, List.nil_append, List.cons_append, Option.toList_some, Option.toList_none, va_rf_s, true_and, and_true, true_implies, false_implies, not_true_eq_false, not_false_eq_true, Nat.reduceAdd, Nat.reduceLeDiff, Nat.le_add_left, Nat.zero_le, Nat.le_refl, znew, true_or, or_true, b01_t, b01_f, b01_ok, bool_ft, vp_b01, vp_b0, vp_b1, b01_eq0, b01_eq1, implies_true, nI_add, nI_clamp, zi_in, zi_le_t, zi_le_f, zi_lt_t, zi_lt_f, zi_eq_t, zi_eq_f, nI_leI, nI_ltI, nI_eq, z_in, pk_mul, zu_same, zu_rw, zu_ix, zi_ne0, zi_sub, zi_m1, Nat.add_sub_cancel, Nat.reduceMul, Nat.reduceSub]
    rw [lawF_congr hv (hL 3 (by omega)).ok, (hA y hy).1, (hA y hy).2]
    refine ⟨fun h1 => hVQ _ _ ⟨S2, rfl, hf1.tr hf2 rfl rfl rfl rfl, ?_⟩, fun h1 => hVQ _ _ ⟨S2, rfl, hf1.tr hf2 rfl rfl rfl rfl, ?_⟩⟩
    · simp only [leavesF, hc, decide_true, Bool.true_and]
      rw [decide_eq_false (Int32.not_lt.mpr h1)]; rfl
    · simp only [leavesF, hc, decide_true, Bool.true_and]
      rw [decide_eq_true (Int32.not_le.mp h1)]; rfl
  · refine hVQ _ _ ⟨S1, rfl, hf1.tr zfr.rf rfl rfl (D' := []) (F' := []) rfl rfl, ?_⟩
    simp only [leavesF, hc, decide_false, Bool.false_and]
    rfl
end MD
