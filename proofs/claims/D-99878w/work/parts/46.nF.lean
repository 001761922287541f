/-! reading: a law; one thing told -/
theorem mLw.fr {b sd nb nc : Nat} {S S' : Nat → Nat → Int32} {x : zTx} {D F : List Nat} (h : mLw b S sd x nb nc) (hf : zfr D F b S S') (hD : D.all (fun x => decide (x < 24 ∨ 32 < x)) = true) (h39 : F.all (fun x => !(x == 39)) = true) (h45 : F.all (fun x => !(x == 45)) = true) : mLw b S' sd x nb nc := by
  have e : ∀ o, 24 ≤ o → o ≤ 32 → S' (b + o) = S (b + o) := fun o h1 h2 => hf.1 (b + o) (by omega) (fun x hx => by have := List.all_eq_true.mp hD x hx; simp at this; omega)
  obtain ⟨h1, h2, h3⟩ := h
  refine ⟨by rw [hf.f h39]; exact h1, by rw [hf.f h45]; exact h2, fun k hk => ?_⟩
  obtain ⟨f, g1, g2, g3, g4⟩ := h3 k hk
  refine ⟨f, by rw [e 24 (by omega) (by omega), e 25 (by omega) (by omega)]; exact g1, g2, g3, g4.keep (Nat.le_refl _) (fun i _ _ => by rw [e 31 (by omega) (by omega), e 32 (by omega) (by omega)]; exact ⟨rfl, rfl⟩) (fun i _ _ o o1 o2 => by rw [e o (by omega) (by omega)])⟩
/-- all that is known between two things told -/
def mPx (b : Nat) (S : Nat → Nat → Int32) (L : Nat → Nat → Int64) (A : List zTk) (sd : Nat) (p : zPX) : Prop := mC b S L A (.ok p.2) ∧ mB b S L sd p.1 ∧ S b 12 = nI 0 ∧ ∃ nb nc, mLw b S sd p.1 nb nc ∧ 4 * nb ≤ p.2.1 ∧ nc ≤ p.2.1
theorem zsw20 {x : Int32} {K0 K1 K2 K3 K4 K5 K6 K7 K8 K9 K10 Kd : zK} {ls : List (Option Value)} {r : List Value} {X : zX} {k n : Nat} (h0 : x = nI 20 → K0 ls r X k n) (h1 : x = nI 21 → K1 ls r X k n) (h2 : x = nI 22 → K2 ls r X k n) (h3 : x = nI 23 → K3 ls r X k n) (h4 : x = nI 24 → K4 ls r X k n) (h5 : x = nI 25 → K5 ls r X k n) (h6 : x = nI 26 → K6 ls r X k n) (h7 : x = nI 27 → K7 ls r X k n) (h8 : x = nI 28 → K8 ls r X k n) (h9 : x = nI 29 → K9 ls r X k n) (h10 : x = nI 30 → K10 ls r X k n) (hd : (∀ j, 20 ≤ j → j < 31 → x ≠ nI j) → Kd ls r X k n) : oTsw 20 [K0, K1, K2, K3, K4, K5, K6, K7, K8, K9, K10] Kd ls (.int x :: r) X k n := by
  refine zswg (lo := 20) (by omega) (by simp) (fun i K hi hx => ?_) (fun q => hd (fun j hj hj2 => q j (by omega) (by simp; omega)))
  match i, hi with
  | 0, hi => cases hi; exact h0 hx
  | 1, hi => cases hi; exact h1 hx
  | 2, hi => cases hi; exact h2 hx
  | 3, hi => cases hi; exact h3 hx
  | 4, hi => cases hi; exact h4 hx
  | 5, hi => cases hi; exact h5 hx
  | 6, hi => cases hi; exact h6 hx
  | 7, hi => cases hi; exact h7 hx
  | 8, hi => cases hi; exact h8 hx
  | 9, hi => cases hi; exact h9 hx
  | 10, hi => cases hi; exact h10 hx
  | i + 11, hi => simp at hi
section NF
variable {l : Launch} {E : zE} {b z : Nat} {h : Nat → Option zSh} {S : Nat → Nat → Int32} {L : Nat → Nat → Int64} {A : List zTk} {sd nb nc : Nat} {x : zTx}
theorem pLwS_eq (A : List zTk) (x : zTx) (k : Nat) (q : zCu) : pLwS A x k q = pB (lwG A (pLaw A q)) (fun r => .ok (setA x k r.1, r.2)) := by
  rw [pLwS, lwG, pB_as]
  cases pLaw A q with
  | error e => rfl
  | ok r =>
    rw [pB_ok, pB_ok]
    cases pMust A 4 r.2 <;> rfl
theorem zX10_tellLaw (hM : isM h b) (hA : tkW A) (hsd : sd < 2) {q : zCu} (hC : mC b S L A (.ok q)) (h19 : S b 19 = nI sd) (hL : mLw b S sd x nb nc) (h12 : S b 12 = nI 0) (hnb : 4 * nb + 1 ≤ q.1) (hnc : nc ≤ q.1) {k : Nat} (hk : k < 4) :
    zM l E 5 YX10_tellLaw [.ref b, .int (nI k)] (z, h, S, L) 0 0 (fun r X => r = none ∧ ∃ S', X = (z, h, S', L) ∧ mF b sd S S' ∧ zfr [24, 25, 26, 27, 28, 29, 30, 31, 32, 33] [11, 12, 13, 14, 39, 45, 49] b S S' ∧ mC b S' L A (pV (pLwS A x k q)) ∧ ∀ x' q', pLwS A x k q = .ok (x', q') → S' b 12 = nI 0 ∧ ∃ nb' nc', mLw b S' sd x' nb' nc' ∧ 4 * nb' ≤ q'.1 ∧ nc' ≤ q'.1) (fun _ _ => False) := by
  obtain ⟨h39, h45, hlaws⟩ := id hL
  have hq4 : q.1 ≤ 400 := hC.2.2.2.1
  rw [pLwS_eq]
  refine zM.go rfl rfl (Nat.le_of_ble_eq_true rfl) (ls := [some (.ref b), some (.int (nI k)), none, none]) rfl ?_
  intro V hVl hVE hVd hVc hVs hVQ hVX
  refine sX10_tellLaw_0 _ _ _ _ _ ?_
  simp (disch := omega) only [oAld, oCV, oPush, hM.1, List.getElem?_cons_zero, List.getElem?_cons_succ, List.set_cons_zero, List.set_cons_succ, List.drop_succ_cons, List.drop_zero, List.take_succ_cons, List.take_zero, List.length_cons, List.length_nil, List.reverse_cons, List.reverse_nil, List.nil_append, List.cons_append, Option.toList_some, Option.toList_none, va_rf_s, true_and, and_true, true_implies, false_implies, not_true_eq_false, not_false_eq_true, Nat.reduceAdd, Nat.reduceLeDiff, Nat.le_add_left, Nat.zero_le, Nat.le_refl, znew, true_or, or_true, b01_t, b01_f, b01_ok, bool_ft, vp_b01, vp_b0, vp_b1, b01_eq0, b01_eq1, implies_true, nI_add, nI_clamp, zi_in, zi_le_t, zi_le_f, zi_lt_t, zi_lt_f, zi_eq_t, zi_eq_f, nI_leI, nI_ltI, nI_eq, z_in, pk_mul, zu_same, zu_rw, zu_ix, zi_ne0, zi_sub, zi_m1, Nat.add_sub_cancel, Nat.reduceMul, Nat.reduceSub]
  refine zC.of0 (zX10_must hM hA hC (by omega) (by omega)) (by omega) (Nat.zero_le _) (Nat.zero_le _) ?_
  rintro _ _ ⟨rfl, S1, rfl, hf1, hC1⟩
  rw [pB_ok] at hC1
  have h39a : S1 b 39 = nI (130 * sd + nb) := by rw [hf1.f rfl]; exact h39
  have h45a : S1 b 45 = nI (420 * sd + nc) := by rw [hf1.f rfl]; exact h45
  have h12a : S1 b 12 = nI 0 := by rw [hf1.f rfl]; exact h12
  have l1 : lwF b S S1 (130 * sd + nb) (420 * sd + nc) sd := lwF.fl hf1 rfl
  have wz : ∀ {S'}, lwF b S S' (130 * sd + nb) (420 * sd + nc) sd → zfr [24, 25, 26, 27, 28, 29, 30, 31, 32, 33] [11, 12, 13, 14, 39, 45, 49] b S S' := fun hl => hl.1.tr zfr.rf rfl rfl (D' := []) (F' := []) rfl rfl
  have hE : ∀ e, lwG A (pLaw A q) = .error e → ∀ S', lwF b S S' (130 * sd + nb) (420 * sd + nc) sd → mC b S' L A (.error e) → V.2.2.2.2.2.1 none (z, h, S', L) := by
    intro e he S' hl' hC'
    rw [he] at hVQ
    exact hVQ _ _ ⟨rfl, S', rfl, hl'.sd hsd (by omega) (by omega), wz hl', hC', fun x' q' e => by cases e⟩
  refine sX10_tellLaw_5 _ _ _ _ _ ?_
  simp (disch := omega) only [oAld, oGI, oIst, oPush, hM.1, h39a, List.getElem?_cons_zero, List.getElem?_cons_succ, List.set_cons_zero, List.set_cons_succ, List.drop_succ_cons, List.drop_zero, List.take_succ_cons, List.take_zero, List.length_cons, List.length_nil, List.reverse_cons, List.reverse_nil, List.nil_append, List.cons_append, Option.toList_some, Option.toList_none, va_rf_s, true_and, and_true, true_implies, false_implies, not_true_eq_false, not_false_eq_true, Nat.reduceAdd, Nat.reduceLeDiff, Nat.le_add_left, Nat.zero_le, Nat.le_refl, znew, true_or, or_true, b01_t, b01_f, b01_ok, bool_ft, vp_b01, vp_b0, vp_b1, b01_eq0, b01_eq1, implies_true, nI_add, nI_clamp, zi_in, zi_le_t, zi_le_f, zi_lt_t, zi_lt_f, zi_eq_t, zi_eq_f, nI_leI, nI_ltI, nI_eq, z_in, pk_mul, zu_same, zu_rw, zu_ix, zi_ne0, zi_sub, zi_m1, Nat.add_sub_cancel, Nat.reduceMul, Nat.reduceSub]
  cases hm5 : pMust A 5 q with
  | error e =>
    rw [hm5] at hC1
    exact tl_e12 hVl hVE hVd hM hA hsd (c0 := 420 * sd + nc) (m := 130 * sd + nb) (by omega) hC1 h45a (by omega) h39a (by omega) (fun S' hl' hC' => hE e (by rw [pLaw, hm5]; rfl) S' (l1.tr hl' (Nat.le_refl _) (Nat.le_refl _) (Nat.le_refl _) (Nat.le_refl _)) hC')
  | ok q1 =>
    rw [hm5] at hC1
    obtain ⟨-, hq1, -⟩ := pMust_inv hm5
    have hq11 : q1.1 = q.1 + 1 := by rw [hq1]
    have eL : pLaw A q = pLwL A 4 [] q1 := by rw [pLaw, hm5]; rfl
    rw [eL] at hE hVQ
    refine tl_loop hVl hVE hVd hM hA hsd 4 [] q1 S1 nc rfl hC1 h12a l1 h39a h45a (Nat.le_refl _) (by omega) (by simp; omega) trivial hE ?_
    intro law q' S' c' x3 hres hl' hC' h12' h39' h45' hnc' hcq' hnb' hbr
    rw [hres, pB_ok] at hVQ
    have h13 := hC'.good
    have hq4' : q'.1 ≤ 400 := hC'.2.2.2.1
    have h19' : S' b 19 = nI sd := by rw [hl'.f rfl]; exact h19
    refine sX10_tellLaw_148 _ _ _ _ _ ?_
    simp (disch := omega) only [oAld, oAst1, oBin, oGI, oGR, oIf, oIld, oPush, oRV, hM.1, hM.r37, hM.t37, hM.n37, hM.r38, hM.t38, hM.n38, h13, h19', h39', List.getElem?_cons_zero, List.getElem?_cons_succ, List.set_cons_zero, List.set_cons_succ, List.drop_succ_cons, List.drop_zero, List.take_succ_cons, List.take_zero, List.length_cons, List.length_nil, List.reverse_cons, List.reverse_nil, List.nil_append, List.cons_append, Option.toList_some, Option.toList_none, va_rf_s, true_and, and_true, true_implies, false_implies, not_true_eq_false, not_false_eq_true, Nat.reduceAdd, Nat.reduceLeDiff, Nat.le_add_left, Nat.zero_le, Nat.le_refl, znew, true_or, or_true, b01_t, b01_f, b01_ok, bool_ft, vp_b01, vp_b0, vp_b1, b01_eq0, b01_eq1, implies_true, nI_add, nI_clamp, zi_in, zi_le_t, zi_le_f, zi_lt_t, zi_lt_f, zi_eq_t, zi_eq_f, nI_leI, nI_ltI, nI_eq, z_in, pk_mul, zu_same, zu_rw, zu_ix, zi_ne0, zi_sub, zi_m1, Nat.add_sub_cancel, Nat.reduceMul, Nat.reduceSub]
    have hff : zfr [24, 25] [] b S' (zu (zu S' (b + 24) (4 * sd + k) (nI (130 * sd + nb))) (b + 25) (4 * sd + k) (nI (130 * sd + nb + law.length))) := (zfr.rf.row (by decide) (by decide)).row (by decide) (by decide)
    have hmF : mF b sd S (zu (zu S' (b + 24) (4 * sd + k) (nI (130 * sd + nb))) (b + 25) (4 * sd + k) (nI (130 * sd + nb + law.length))) := ((hl'.sd hsd (by omega) (by omega)).row hsd 4 rfl (by decide) (by omega) (by omega)).row hsd 4 rfl (by decide) (by omega) (by omega)
    have e24 : ∀ j, zu (zu S' (b + 24) (4 * sd + k) (nI (130 * sd + nb))) (b + 25) (4 * sd + k) (nI (130 * sd + nb + law.length)) (b + 24) j = if j = 4 * sd + k then nI (130 * sd + nb) else S (b + 24) j := fun j => by rw [zu_rw _ _ (by omega), zu_rowj, hl'.o (by omega) (by omega)]
    have e25 : ∀ j, zu (zu S' (b + 24) (4 * sd + k) (nI (130 * sd + nb))) (b + 25) (4 * sd + k) (nI (130 * sd + nb + law.length)) (b + 25) j = if j = 4 * sd + k then nI (130 * sd + nb + law.length) else S (b + 25) j := fun j => by rw [zu_rowj, zu_rw _ _ (by omega), hl'.o (by omega) (by omega)]
    generalize zu (zu S' (b + 24) (4 * sd + k) (nI (130 * sd + nb))) (b + 25) (4 * sd + k) (nI (130 * sd + nb + law.length)) = S2 at hff hmF e24 e25 ⊢
    refine hVQ _ _ ⟨rfl, S2, rfl, hmF, (wz hl').tr hff rfl rfl rfl rfl, hC'.frL hff rfl rfl (fun _ _ => rfl), fun x' q'' e => ?_⟩
    cases e
    refine ⟨by rw [hff.f rfl]; exact h12', nb + law.length, c', ⟨by rw [hff.f rfl, h39']; congr 1; omega, by rw [hff.f rfl]; exact h45', fun j hj => ?_⟩, hnb', hcq'⟩
    show lawIn b S2 sd (nb + law.length) c' (4 * sd + j) (if j = k then law else xA x j)
    by_cases hjk : j = k
    · subst hjk
      rw [if_pos rfl]
      refine ⟨130 * sd + nb, ⟨by rw [e24, if_pos rfl], by rw [e25, if_pos rfl]⟩, fun _ => by omega, by omega, hbr.keep (Nat.le_refl _) (fun i _ _ => by rw [hff.at (o := 31) rfl rfl, hff.at (o := 32) rfl rfl]; exact ⟨rfl, rfl⟩) (fun i _ _ o o1 o2 => by rw [hff.1 (b + o) (by omega) (fun x hx => by simp at hx; omega)])⟩
    · rw [if_neg hjk]
      obtain ⟨f, g1, g2, g3, g4⟩ := hlaws j hj
      refine ⟨f, ⟨by rw [e24, if_neg (by omega)]; exact g1.1, by rw [e25, if_neg (by omega)]; exact g1.2⟩, g2, by omega, g4.keep (by omega) (fun i i1 i2 => ?_) (fun i i1 i2 o o1 o2 => ?_)⟩
      · rw [hff.at (o := 31) rfl rfl, hff.at (o := 32) rfl rfl]; exact hl'.2.2 i (by omega)
      · rw [hff.1 (b + o) (by omega) (fun x hx => by simp at hx; omega)]; exact hl'.2.1 o o1 o2 i (by omega)
end NF
