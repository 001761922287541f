/-! reading: sums, the whole -/
section NA
variable {l : Launch} {E : zE} {V : zV} {b z : Nat} {h : Nat → Option zSh} {S S0 : Nat → Nat → Int32} {L : Nat → Nat → Int64} {A : List zTk} {c0 sd : Nat}
theorem cdW_app (a b : List Nat) : cdW (a ++ b) = cdW a ++ cdW b := by unfold cdW; exact List.map_append ..
theorem ex_P (hVl : V.1 = l) (hVE : V.2.1 = E) (hVd : V.2.2.1 = 3) (hM : isM h b) (hA : tkW A) (hsd : sd < 2) (hc0 : 420 * sd ≤ c0) (lv : Nat) (hlv : lv ≤ 6) (hA' : exA V b z h S0 L A c0 sd lv) (W1 : List Nat) (hW1 : poR true W1 = W1) (hW1l : W1.length ≤ 3 * (6 - lv) + 1) :
    ∀ (f : Nat) (c D C : zCd) (ps : List Nat) (q : zCu) (S : Nat → Nat → Int32), 400 < f + q.1 → exF b S0 S c0 sd → exS b S L A c0 sd (6 - lv) (ps ++ W1) (C ++ D) q → D ++ cdW ps = c → (∀ w ∈ ps, w = 10 ∨ w = 15) → ps.length ≤ 1 → exE V b z h S0 L A c0 sd (rdL A 10 15 (rdW A lv) f c q) →
      (∀ c' q' ps' D' S', rdL A 10 15 (rdW A lv) f c q = .ok (c', q') → tkK A q'.1 ≠ 10 → tkK A q'.1 ≠ 15 → exF b S0 S' c0 sd → exS b S' L A c0 sd (6 - lv) (ps' ++ W1) (C ++ D') q' → D' ++ cdW ps' = c' → (∀ w ∈ ps', w = 10 ∨ w = 15) → ps'.length ≤ 1 → zW V YX10_expression 96 (exL b) [] (z, h, S', L) 0 0) →
      zW V YX10_expression 96 (exL b) [] (z, h, S, L) 0 0 := by
  intro f
  induction f with
  | zero =>
    intro c D C ps q S hf hF hS hD hps hpl hE hn
    have := hS.1.2.2.2.1
    omega
  | succ f ih =>
    intro c D C ps q S hf hF hS hD hps hpl hE hn
    by_cases hk : tkK A q.1 = 10 ∨ tkK A q.1 = 15
    · have e0 : rdL A 10 15 (rdW A lv) (f + 1) c q = pB (pGo A q) (fun q1 => pB (rdW A lv q1) (fun r => rdL A 10 15 (rdW A lv) f (c ++ (r.1 ++ [(opN (tkK A q.1), nI 0)])) r.2)) := by rw [rdL, if_pos hk]
      rw [e0] at hE hn
      have hpo : poR true (ps ++ W1) = W1 ∧ poC true (ps ++ W1) = cdW ps := by
        obtain ⟨e1, e2⟩ := po_app (s := true) (W := W1) (ps := ps) (fun w hw => by rcases hps w hw with rfl | rfl <;> rfl)
        exact ⟨by rw [e1, hW1], by rw [e2, poC_nil hW1, List.append_nil]⟩
      refine ex_opr hVl hVE hVd hM hA hsd hF hS (by rw [List.length_append]; omega) (s := true) (Or.inr (Or.inr hk)) (decide_eq_true hk).symm (fun e he S' => hE e (by rw [he]; rfl) S') ?_
      intro S1 q1 hg hF1 hS1
      rw [hg, pB_ok] at hE hn
      rw [hpo.1, hpo.2, List.append_assoc, hD] at hS1
      refine hA' _ _ q1 S1 hF1 hS1 (by rw [List.length_cons]; omega) (fun e he S' => hE e (by rw [he]; rfl) S') ?_
      intro c1 q2 S2 hx hF2 hS2
      rw [hx, pB_ok] at hE hn
      refine ih (c ++ (c1 ++ [(opN (tkK A q.1), nI 0)])) (c ++ c1) C [tkK A q.1] q2 S2 ?_ hF2 (by rw [← List.append_assoc]; exact hS2) ?_ ?_ (by simp) hE hn
      · have hq1 := (pGo_ok hg).1
        have h4 := hS1.1.2.2.2.1
        obtain ⟨⟨g1, g2, g3⟩, -, -⟩ := rdW_ok A lv _ _ _ hx h4
        have h9 : q1.1 = q.1 + 1 := by rw [hq1]
        omega
      · rw [List.append_assoc]; rfl
      · intro w hw
        rw [List.mem_singleton] at hw
        rw [hw]; exact hk
    · have e0 : rdL A 10 15 (rdW A lv) (f + 1) c q = .ok (c, q) := by rw [rdL, if_neg hk]
      exact hn c q ps D S e0 (fun e => hk (Or.inl e)) (fun e => hk (Or.inr e)) hF hS hD hps hpl
theorem ex_S (hVl : V.1 = l) (hVE : V.2.1 = E) (hVd : V.2.2.1 = 3) (hM : isM h b) (hA : tkW A) (hsd : sd < 2) (hc0 : 420 * sd ≤ c0) (lv : Nat) (hlv : lv ≤ 6) (hA' : exA V b z h S0 L A c0 sd lv) (W : List Nat) (hW : poR false W = W) (hWl : W.length ≤ 3 * (6 - lv)) :
    ∀ (f : Nat) (c D C : zCd) (ops : List Nat) (q : zCu) (S : Nat → Nat → Int32), 400 < f + q.1 → exF b S0 S c0 sd → exS b S L A c0 sd (6 - lv) (ops ++ W) (C ++ D) q → D ++ cdW ops = c → (∀ w ∈ ops, isOp w) → ops.length ≤ 2 → tkK A q.1 ≠ 10 → tkK A q.1 ≠ 15 → exE V b z h S0 L A c0 sd (rdL A 8 9 (rdG A 10 15 (rdW A lv)) f c q) →
      (∀ c' q' ops' D' S', rdL A 8 9 (rdG A 10 15 (rdW A lv)) f c q = .ok (c', q') → ¬ isOp (tkK A q'.1) → exF b S0 S' c0 sd → exS b S' L A c0 sd (6 - lv) (ops' ++ W) (C ++ D') q' → D' ++ cdW ops' = c' → (∀ w ∈ ops', isOp w) → ops'.length ≤ 2 → zW V YX10_expression 96 (exL b) [] (z, h, S', L) 0 0) →
      zW V YX10_expression 96 (exL b) [] (z, h, S, L) 0 0 := by
  intro f
  induction f with
  | zero =>
    intro c D C ops q S hf hF hS hD hps hpl _ _ hE hn
    have := hS.1.2.2.2.1
    omega
  | succ f ih =>
    intro c D C ops q S hf hF hS hD hops hol h10 h15 hE hn
    by_cases hk : tkK A q.1 = 8 ∨ tkK A q.1 = 9
    · have e0 : rdL A 8 9 (rdG A 10 15 (rdW A lv)) (f + 1) c q = pB (pGo A q) (fun q1 => pB (rdG A 10 15 (rdW A lv) q1) (fun r => rdL A 8 9 (rdG A 10 15 (rdW A lv)) f (c ++ (r.1 ++ [(opN (tkK A q.1), nI 0)])) r.2)) := by rw [rdL, if_pos hk]
      rw [e0] at hE hn
      have hpo : poR false (ops ++ W) = W ∧ poC false (ops ++ W) = cdW ops := by
        obtain ⟨e1, e2⟩ := po_app (s := false) (W := W) (ps := ops) (fun w hw => stop_op (hops w hw))
        exact ⟨by rw [e1, hW], by rw [e2, poC_nil hW, List.append_nil]⟩
      refine ex_opr hVl hVE hVd hM hA hsd hF hS (by rw [List.length_append]; omega) (s := false) (by rcases hk with q | q; exact Or.inl q; exact Or.inr (Or.inl q)) (decide_eq_false (by omega)).symm (fun e he S' => hE e (by rw [he]; rfl) S') ?_
      intro S1 q1 hg hF1 hS1
      rw [hg, pB_ok, rdG, pB_as] at hE hn
      rw [hpo.1, hpo.2, List.append_assoc, hD] at hS1
      have hq1 := (pGo_ok hg).1
      refine hA' _ _ q1 S1 hF1 hS1 (by rw [List.length_cons]; omega) (fun e he S' => hE e (by rw [he]; rfl) S') ?_
      intro c1 q2 S2 hx hF2 hS2
      rw [hx, pB_ok] at hE hn
      have h4 := hS1.1.2.2.2.1
      obtain ⟨⟨g1, g2, g3⟩, -, g6⟩ := rdW_ok A lv _ _ _ hx h4
      refine ex_P hVl hVE hVd hM hA hsd hc0 lv hlv hA' (tkK A q.1 :: W) ?_ (by rw [List.length_cons]; omega) 401 c1 c1 (C ++ c) [] q2 S2 (by omega) hF2 hS2 (by simp [cdW]) (fun w hw => by cases hw) (by simp) (fun e he S' => hE e (by rw [he]; rfl) S') ?_
      · rw [poR, if_pos (by rcases hk with q | q <;> rw [q] <;> rfl)]
      · intro c2 q3 ps D2 S3 hx2 hn10 hn15 hF3 hS3 hD2 hps hpl
        rw [hx2, pB_ok] at hE hn
        obtain ⟨⟨-, -, g7, -⟩, -, -⟩ := rdL_ok (rdW_ok A lv) _ _ _ _ _ hx2 g3 g6
        refine ih (c ++ (c2 ++ [(opN (tkK A q.1), nI 0)])) (c ++ D2) C (ps ++ [tkK A q.1]) q3 S3 ?_ hF3 ?_ ?_ ?_ ?_ hn10 hn15 hE hn
        · have h9 : q1.1 = q.1 + 1 := by rw [hq1]
          omega
        · rw [← List.append_assoc, List.append_assoc ps]; exact hS3
        · rw [cdW_app, List.append_assoc, ← List.append_assoc D2, hD2]; rfl
        · intro w hw
          rcases List.mem_append.mp hw with hw | hw
          · exact Or.inr (Or.inr (hps w hw))
          · rw [List.mem_singleton] at hw
            rw [hw]; rcases hk with q | q
            · exact Or.inl q
            · exact Or.inr (Or.inl q)
        · rw [List.length_append]; simp; omega
    · have e0 : rdL A 8 9 (rdG A 10 15 (rdW A lv)) (f + 1) c q = .ok (c, q) := by rw [rdL, if_neg hk]
      exact hn c q ops D S e0 (fun e => by rcases e with e | e | e | e; exact hk (Or.inl e); exact hk (Or.inr e); exact h10 e; exact h15 e) hF hS hD hops hol
theorem ex_B0 (hVl : V.1 = l) (hVE : V.2.1 = E) (hVd : V.2.2.1 = 3) (hM : isM h b) (hA : tkW A) (hsd : sd < 2) (hc0 : 420 * sd ≤ c0) (lv : Nat) (hlv : lv ≤ 6) (hA' : exA V b z h S0 L A c0 sd lv) : exB V b z h S0 L A c0 sd lv := by
  intro W C q S hF hS hWl hW hE hn
  rw [rdX_eq] at hE hn
  have e1 : rdTm A (rdW A lv) q = pB (rdW A lv q) (fun r => pB (rdL A 10 15 (rdW A lv) 401 r.1 r.2) (fun r => rdL A 8 9 (rdG A 10 15 (rdW A lv)) 401 r.1 r.2)) := by
    rw [rdTm, rdG, rdG, pB_as]
  rw [e1] at hE hn
  have h4 := hS.1.2.2.2.1
  refine hA' W C q S hF hS (by omega) (fun e he S' => hE e (by rw [he]; rfl) S') ?_
  intro c1 q1 S1 hx hF1 hS1
  rw [hx, pB_ok] at hE hn
  obtain ⟨⟨g1, g2, g3⟩, -, g6⟩ := rdW_ok A lv _ _ _ hx h4
  refine ex_P hVl hVE hVd hM hA hsd hc0 lv hlv hA' W (poR_tt hW) (by omega) 401 c1 c1 C [] q1 S1 (by omega) hF1 hS1 (by simp [cdW]) (fun w hw => by cases hw) (by simp) (fun e he S' => hE e (by rw [he]; rfl) S') ?_
  intro c2 q2 ps D2 S2 hx2 hn10 hn15 hF2 hS2 hD2 hps hpl
  rw [hx2, pB_ok] at hE hn
  obtain ⟨⟨-, -, g7, -⟩, -, -⟩ := rdL_ok (rdW_ok A lv) _ _ _ _ _ hx2 g3 g6
  exact ex_S hVl hVE hVd hM hA hsd hc0 lv hlv hA' W hW hWl 401 c2 D2 C ps q2 S2 (by omega) hF2 hS2 hD2 (fun w hw => Or.inr (Or.inr (hps w hw))) (by omega) hn10 hn15 hE hn
theorem ex_B (hVl : V.1 = l) (hVE : V.2.1 = E) (hVd : V.2.2.1 = 3) (hM : isM h b) (hA : tkW A) (hsd : sd < 2) (hc0 : 420 * sd ≤ c0) : ∀ (lv : Nat), lv ≤ 6 → exB V b z h S0 L A c0 sd lv
  | 0, hlv => ex_B0 hVl hVE hVd hM hA hsd hc0 0 hlv (ex_A hVl hVE hVd hM hA hsd hc0 0 hlv (fun m hm => absurd hm (by omega)))
  | m + 1, hlv => ex_B0 hVl hVE hVd hM hA hsd hc0 (m + 1) hlv (ex_A hVl hVE hVd hM hA hsd hc0 (m + 1) hlv (fun m' hm => by
      obtain rfl : m = m' := by omega
      exact ex_B hVl hVE hVd hM hA hsd hc0 m (by omega)))
theorem zX10_expression {st : zPR zCu} (hM : isM h b) (hA : tkW A) (hsd : sd < 2) (hc0 : 420 * sd ≤ c0) (hC : mC b S L A st) (h45 : S b 45 = nI c0) (hc1 : c0 ≤ 420 * sd + 410) (hq : ∀ q, st = .ok q → S b 12 = nI 0 ∧ c0 ≤ 420 * sd + q.1) :
    zM l E 3 YX10_expression [.ref b] (z, h, S, L) 0 0 (fun r X => r = none ∧ ∃ S' d, X = (z, h, S', L) ∧ exF b S S' c0 sd ∧ mC b S' L A (pV (pB st (rdX A 6))) ∧ (S' b 45 = nI d ∧ c0 ≤ d ∧ d ≤ 420 * sd + 420) ∧ ∀ cl q', pB st (rdX A 6) = .ok (cl, q') → d = c0 + cl.length ∧ codeAt (S' (b + 31)) (S' (b + 32)) c0 cl ∧ S' b 12 = nI 0 ∧ d ≤ 420 * sd + q'.1) (fun _ _ => False) := by
  refine zM.go rfl rfl (Nat.le_of_ble_eq_true rfl) (ls := [some (.ref b), none, none]) rfl ?_
  intro V hVl hVE hVd hVc hVs hVQ hVX
  have hf1 : zfr [] [49] b S (zu S b 49 (nI 0)) := zfr.rf.fld (by decide)
  have h49 : zu S b 49 (nI 0) b 49 = nI 0 := zu_same _ _ _ _
  have hC1 : mC b (zu S b 49 (nI 0)) L A st := hC.frL hf1 rfl rfl (fun _ _ => rfl)
  have hF1 : exF b S (zu S b 49 (nI 0)) c0 sd := ⟨hf1.tr zfr.rf rfl rfl (D' := []) (F' := []) rfl rfl, hf1.cd rfl rfl⟩
  have h45' : zu S b 49 (nI 0) b 45 = nI c0 := by rw [hf1.f rfl]; exact h45
  cases st with
  | error e =>
    obtain ⟨n, h13, hn, hn5⟩ := hC1.bad
    obtain ⟨o, ho⟩ : ∃ o, zu S b 49 (nI 0) b 12 = o := ⟨_, rfl⟩
    refine sX10_expression_0 _ _ _ _ _ ?_
    simp (disch := omega) only [oAld, oGI, oIst, oPI, oPush, hM.1, ho, List.getElem?_cons_zero, List.getElem?_cons_succ, List.set_cons_zero, List.set_cons_succ, List.drop_succ_cons, List.drop_zero, List.take_succ_cons, List.take_zero, List.length_cons, List.length_nil, List.reverse_cons, List.reverse_nil, List.nil_append, List.cons_append, Option.toList_some, Option.toList_none, va_rf_s, true_and, and_true, true_implies, false_implies, not_true_eq_false, not_false_eq_true, Nat.reduceAdd, Nat.reduceLeDiff, Nat.le_add_left, Nat.zero_le, Nat.le_refl, znew, true_or, or_true, b01_t, b01_f, b01_ok, bool_ft, vp_b01, vp_b0, vp_b1, b01_eq0, b01_eq1, implies_true, nI_add, nI_clamp, zi_in, zi_le_t, zi_le_f, zi_lt_t, zi_lt_f, zi_eq_t, zi_eq_f, nI_leI, nI_ltI, nI_eq, z_in, pk_mul, zu_same, zu_rw, zu_ix, zi_ne0, zi_sub, zi_m1, Nat.add_sub_cancel, Nat.reduceMul, Nat.reduceSub]
    generalize zu S b 49 (nI 0) = S1 at *
    refine sX10_expression_12 _ _ _ _ _ ?_
    simp (disch := omega) only [oAld, oGI, oIf, oIld, oRV, hM.1, h13, List.getElem?_cons_zero, List.getElem?_cons_succ, List.set_cons_zero, List.set_cons_succ, List.drop_succ_cons, List.drop_zero, List.take_succ_cons, List.take_zero, List.length_cons, List.length_nil, List.reverse_cons, List.reverse_nil, List.nil_append, List.cons_append, Option.toList_some, Option.toList_none, va_rf_s, true_and, and_true, true_implies, false_implies, not_true_eq_false, not_false_eq_true, Nat.reduceAdd, Nat.reduceLeDiff, Nat.le_add_left, Nat.zero_le, Nat.le_refl, znew, true_or, or_true, b01_t, b01_f, b01_ok, bool_ft, vp_b01, vp_b0, vp_b1, b01_eq0, b01_eq1, implies_true, nI_add, nI_clamp, zi_in, zi_le_t, zi_le_f, zi_lt_t, zi_lt_f, zi_eq_t, zi_eq_f, nI_leI, nI_ltI, nI_eq, z_in, pk_mul, zu_same, zu_rw, zu_ix, zi_ne0, zi_sub, zi_m1, Nat.add_sub_cancel, Nat.reduceMul, Nat.reduceSub]
    exact hVQ _ _ ⟨rfl, S1, c0, rfl, hF1, hC1, ⟨h45', Nat.le_refl _, by omega⟩, fun cl q' e => by cases e⟩
  | ok q =>
    obtain ⟨h12, hcq⟩ := hq q rfl
    have h13 := hC1.good
    have h12' : zu S b 49 (nI 0) b 12 = nI 0 := by rw [hf1.f rfl]; exact h12
    rw [pB_ok] at hVQ
    refine sX10_expression_0 _ _ _ _ _ ?_
    simp (disch := omega) only [oAld, oGI, oIst, oPI, oPush, hM.1, h12', List.getElem?_cons_zero, List.getElem?_cons_succ, List.set_cons_zero, List.set_cons_succ, List.drop_succ_cons, List.drop_zero, List.take_succ_cons, List.take_zero, List.length_cons, List.length_nil, List.reverse_cons, List.reverse_nil, List.nil_append, List.cons_append, Option.toList_some, Option.toList_none, va_rf_s, true_and, and_true, true_implies, false_implies, not_true_eq_false, not_false_eq_true, Nat.reduceAdd, Nat.reduceLeDiff, Nat.le_add_left, Nat.zero_le, Nat.le_refl, znew, true_or, or_true, b01_t, b01_f, b01_ok, bool_ft, vp_b01, vp_b0, vp_b1, b01_eq0, b01_eq1, implies_true, nI_add, nI_clamp, zi_in, zi_le_t, zi_le_f, zi_lt_t, zi_lt_f, zi_eq_t, zi_eq_f, nI_leI, nI_ltI, nI_eq, z_in, pk_mul, zu_same, zu_rw, zu_ix, zi_ne0, zi_sub, zi_m1, Nat.add_sub_cancel, Nat.reduceMul, Nat.reduceSub]
    generalize zu S b 49 (nI 0) = S1 at *
    refine sX10_expression_12 _ _ _ _ _ ?_
    simp (disch := omega) only [oAld, oGI, oIf, oIld, oRV, hM.1, h13, List.getElem?_cons_zero, List.getElem?_cons_succ, List.set_cons_zero, List.set_cons_succ, List.drop_succ_cons, List.drop_zero, List.take_succ_cons, List.take_zero, List.length_cons, List.length_nil, List.reverse_cons, List.reverse_nil, List.nil_append, List.cons_append, Option.toList_some, Option.toList_none, va_rf_s, true_and, and_true, true_implies, false_implies, not_true_eq_false, not_false_eq_true, Nat.reduceAdd, Nat.reduceLeDiff, Nat.le_add_left, Nat.zero_le, Nat.le_refl, znew, true_or, or_true, b01_t, b01_f, b01_ok, bool_ft, vp_b01, vp_b0, vp_b1, b01_eq0, b01_eq1, implies_true, nI_add, nI_clamp, zi_in, zi_le_t, zi_le_f, zi_lt_t, zi_lt_f, zi_eq_t, zi_eq_f, nI_leI, nI_ltI, nI_eq, z_in, pk_mul, zu_same, zu_rw, zu_ix, zi_ne0, zi_sub, zi_m1, Nat.add_sub_cancel, Nat.reduceMul, Nat.reduceSub]
    refine ex_B hVl hVE hVd hM hA hsd hc0 6 (by omega) [] [] q S1 hF1 ⟨hC1, h12', ⟨h49, trivial, fun w hw => by cases hw⟩, ⟨h45', trivial⟩, by simpa [opC] using hcq⟩ (by simp) rfl ?_ ?_
    · intro e he S2 hF2 hC2 ⟨d, hd⟩
      rw [he] at hVQ
      exact hVQ _ _ ⟨rfl, S2, d, rfl, hF2, hC2, hd, fun cl q' e => by cases e⟩
    · intro c q' ops D S2 hx hno hF2 hS2 hDc hops hol
      rw [hx] at hVQ
      obtain ⟨hC2, h12a, ⟨h49a, hWa, hwa⟩, ⟨h45a, hcaa⟩, hba⟩ := id hS2
      have hq4 := hC2.2.2.2.1
      rw [List.nil_append, List.append_nil] at *
      have nb : ∀ j, isOp j → isB A j (.ok q') = false := fun j hj => decide_eq_false (fun e => hno (e ▸ hj))
      have hpo : poC false ops = cdW ops := by
        obtain ⟨-, e2⟩ := po_app (s := false) (W := []) (ps := ops) (fun w hw => stop_op (hops w hw))
        rw [List.append_nil] at e2
        rw [e2]; exact List.append_nil _
      have hpl := poC_len false ops
      rw [hpo] at hpl
      refine ex_none hVl hVE hVd hM hA hC2 h12a (by omega) (Or.inr rfl) (nb 8 (Or.inl rfl)) (nb 9 (Or.inr (Or.inl rfl))) (nb 10 (Or.inr (Or.inr (Or.inl rfl)))) (nb 15 (Or.inr (Or.inr (Or.inr rfl)))) ?_
      refine sX10_expression_186 _ _ _ _ _ ?_
      simp (disch := omega) only [oAld, oCV, oGI, oIf, oIfc, oIld, oIst, oPush, hM.1, h12a, List.getElem?_cons_zero, List.getElem?_cons_succ, List.set_cons_zero, List.set_cons_succ, List.drop_succ_cons, List.drop_zero, List.take_succ_cons, List.take_zero, List.length_cons, List.length_nil, List.reverse_cons, List.reverse_nil, List.nil_append, List.cons_append, Option.toList_some, Option.toList_none, va_rf_s, true_and, and_true, true_implies, false_implies, not_true_eq_false, not_false_eq_true, Nat.reduceAdd, Nat.reduceLeDiff, Nat.le_add_left, Nat.zero_le, Nat.le_refl, znew, true_or, or_true, b01_t, b01_f, b01_ok, bool_ft, vp_b01, vp_b0, vp_b1, b01_eq0, b01_eq1, implies_true, nI_add, nI_clamp, zi_in, zi_le_t, zi_le_f, zi_lt_t, zi_lt_f, zi_eq_t, zi_eq_f, nI_leI, nI_ltI, nI_eq, z_in, pk_mul, zu_same, zu_rw, zu_ix, zi_ne0, zi_sub, zi_m1, Nat.add_sub_cancel, Nat.reduceMul, Nat.reduceSub]
      refine ex_204 hVl hVE hVd hM hsd _ hF2 hC2 h45a (by omega) (by omega) h49a hWa hwa (by omega) ?_
      intro S3 hF3 hC3 hf3 h45d hcad hcdd
      rw [hpo] at h45d hcad hcdd
      have hcl : c.length = D.length + (cdW ops).length := by rw [← hDc, List.length_append]
      refine hVQ _ _ ⟨rfl, S3, c0 + c.length, rfl, hF3, hC3, ⟨by rw [h45d, hcl]; congr 1; omega, by omega, by omega⟩, fun cl q9 e => ?_⟩
      cases e
      refine ⟨rfl, ?_, by rw [hf3.f rfl]; exact h12a, by omega⟩
      rw [← hDc]
      exact codeAt_app (codeAt_keep hcaa (fun j _ hj => hcdd j (by omega))) hcad
end NA
