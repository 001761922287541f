/-! the model: read -/
def tZ (x : zTx) : ZT := (((xC x).length, (xS x).length, (xY x).length, (xW x).length), ((fun s => ((xS x).getD s s0).1.toNatClampNeg), (fun s => ((xS x).getD s s0).2.1.toNatClampNeg), fun s => nI ((xS x).getD s s0).2.2), ((fun y => nI ((xY x).getD y y0).2.1), fun y => nI ((xY x).getD y y0).2.2.1), (nI (xG x).2.1, nI (xG x).2.2), xA x)
def rZ (x : zTx) : Nat → Int32 := fun j => if j < (xY x).length then ((xY x).getD j y0).2.2.2 else if 36 ≤ j ∧ j < 36 + (xW x).length then nI ((xW x).getD (j - 36) w0).2 else if j = 46 then (if (xC x).length = 0 then -2 else (xG x).1) else nI 0
/-- the side lv holds the text t, in its own places -/
def mXs (b : Nat) (S : Nat → Nat → Int32) (lv : Nat) (t : ZT) : Prop := mT b S lv (tnc t) (tns t) (tny t) (tnw t) ∧ mS b S lv (tnc t) (tns t) (tone t) (toth t) ∧ (∀ k, k < 4 → lawIn b S lv 130 420 (4 * lv + k) (tlw t k)) ∧ mA b S lv (tny t) (tag t) (tte t) ∧ (∀ s, s < tns t → S (b + 14) (10 * lv + s) = tlo t s) ∧ S (b + 22) lv = tdr t ∧ S (b + 23) lv = tsd t
theorem brIn.br {b lo hi j : Nat} {S : Nat → Nat → Int32} {q : zBr3} (h : brIn b S lo hi j q) (hh : hi ≤ 840) : brAt b S j q := by
  obtain ⟨h1, t, e, h2, h3, h4, h5, h6, h7, h8⟩ := h
  cases hq : q.1 with
  | false => exact ⟨h1, 0, 0, t, e, fun ht => absurd ht (by rw [hq]; simp), h3, h5, h6, by omega, h8⟩
  | true =>
    obtain ⟨f, m, g1, ⟨g2, g3, g4, g5⟩, g6, g7, g8⟩ := h2 hq
    exact ⟨h1, f, m, t, e, fun _ => ⟨g1, ⟨g3, g4, by omega, g5⟩, g6, g7, by omega, g8⟩, h3, h5, h6, by omega, h8⟩
theorem brsIn.br {b lo hi : Nat} {S : Nat → Nat → Int32} (hh : hi ≤ 840) : ∀ {qs : List zBr3} {j : Nat}, brsIn b S lo hi j qs → brsAt b S j qs
  | [], _, _ => trivial
  | q :: qs, j, h => ⟨h.1.br hh, brsIn.br hh h.2⟩
theorem lawIn.law {b lv nb nc p : Nat} {S : Nat → Nat → Int32} {law : List zBr3} (h : lawIn b S lv nb nc p law) (hlv : lv < 2) (hb : nb ≤ 130) (hc : nc ≤ 420) : lawAt b S p law := by
  obtain ⟨f, ⟨g1, g2⟩, g3, g4, g5⟩ := h
  exact ⟨f, g1, g2, by omega, g5.br (by omega)⟩
theorem mXs.x {b lv : Nat} {S : Nat → Nat → Int32} {t : ZT} (h : mXs b S lv t) : mX b S lv t := by
  obtain ⟨h1, h2, h3, h4, h5, h6, h7⟩ := h
  exact ⟨h1, h2, fun k hk => (h3 k hk).law h1.1.2 (Nat.le_refl _) (Nat.le_refl _), h4, h5, h6, h7⟩
theorem mXs.sd {b lv : Nat} {S S' : Nat → Nat → Int32} {t : ZT} (h : mXs b S lv t) (he : sdE b lv S S') (h18 : S' b 18 = S b 18) : mXs b S' lv t := by
  obtain ⟨h1, h2, h3, h4, h5, h6, h7⟩ := h
  have hlv : lv < 2 := h1.1.2
  have w1 : ∀ o, 10 ≤ o → o ≤ 32 → wd o = 1 → S' (b + o) lv = S (b + o) lv := fun o o1 o2 hw => he o o1 o2 lv (by rw [hw]; omega) (by rw [hw]; omega)
  have hns : tns t ≤ 10 := h1.2.2.1.2
  have hny : tny t ≤ 6 := h1.2.2.2.1.2
  refine ⟨?_, fun s hs => ?_, fun k hk => ?_, fun y hy => ?_, fun s hs => ?_, ?_, ?_⟩
  · unfold mT
    rw [h18, w1 10 (by omega) (by omega) rfl, w1 11 (by omega) (by omega) rfl, w1 15 (by omega) (by omega) rfl, w1 19 (by omega) (by omega) rfl]
    exact h1
  · rw [he 12 (by omega) (by omega) _ (by show 10 * lv ≤ _; omega) (by show _ < 10 * lv + 10; omega), he 13 (by omega) (by omega) _ (by show 10 * lv ≤ _; omega) (by show _ < 10 * lv + 10; omega)]
    exact h2 s hs
  · obtain ⟨f, g1, g2, g3, g4⟩ := h3 k hk
    refine ⟨f, ⟨(he 24 (by omega) (by omega) _ (by show 4 * lv ≤ _; omega) (by show _ < 4 * lv + 4; omega)).trans g1.1, (he 25 (by omega) (by omega) _ (by show 4 * lv ≤ _; omega) (by show _ < 4 * lv + 4; omega)).trans g1.2⟩, g2, g3, g4.keep (Nat.le_refl _) (fun i i1 i2 => ⟨he 31 (by omega) (by omega) i (by show 420 * lv ≤ _; omega) (by show _ < 420 * lv + 420; omega), he 32 (by omega) (by omega) i (by show 420 * lv ≤ _; omega) (by show _ < 420 * lv + 420; omega)⟩) (fun i i1 i2 o o1 o2 => ?_)⟩
    have g2' : 130 * lv ≤ f := g2 (fun e => by rw [e] at i2; simp at i2; omega)
    have hw : wd o = 130 := by
      have : o = 26 ∨ o = 27 ∨ o = 28 ∨ o = 29 ∨ o = 30 := by omega
      rcases this with rfl | rfl | rfl | rfl | rfl <;> rfl
    exact he o (by omega) (by omega) i (by rw [hw]; omega) (by rw [hw]; omega)
  · rw [he 16 (by omega) (by omega) _ (by show 6 * lv ≤ _; omega) (by show _ < 6 * lv + 6; omega), he 17 (by omega) (by omega) _ (by show 6 * lv ≤ _; omega) (by show _ < 6 * lv + 6; omega)]
    exact h4 y hy
  · rw [he 14 (by omega) (by omega) _ (by show 10 * lv ≤ _; omega) (by show _ < 10 * lv + 10; omega)]
    exact h5 s hs
  · rw [w1 22 (by omega) (by omega) rfl]; exact h6
  · rw [w1 23 (by omega) (by omega) rfl]; exact h7
theorem mXs.fr {b lv : Nat} {S S' : Nat → Nat → Int32} {t : ZT} {D F : List Nat} (h : mXs b S lv t) (hf : zfr D F b S S') (hD : D.all (fun x => decide (x < 10 ∨ 32 < x)) = true) (hF : F.all (fun x => !(x == 18)) = true) : mXs b S' lv t := h.sd (sdE.fr hf hD) (hf.f hF)
section NM
variable {l : Launch} {E : zE} {b z : Nat} {h : Nat → Option zSh} {S : Nat → Nat → Int32} {L : Nat → Nat → Int64} {A : List zTk} {sd : Nat} {x : zTx}
/-- what was told stands as a text -/
theorem mB.text {nb nc : Nat} (hB : mB b S L sd x) (hL : mLw b S sd x nb nc) (hnb : nb ≤ 130) (hnc : nc ≤ 420) (hx : xOK x) (h18 : S b 18 = nI sd) : mXs b S sd (tZ x) := by
  obtain ⟨⟨a1, a2, a3, a4, a5⟩, hSS, hYY, hWW, hGG, -⟩ := hB
  obtain ⟨b1, b2, b3, b4, b6, b7, b8, b9⟩ := hx
  refine ⟨⟨⟨h18, a1.2⟩, a2, a3, a4, a5⟩, fun s hs => ?_, fun k hk => ?_, fun y hy => ⟨(hYY y hy).1, (hYY y hy).2.1⟩, fun s hs => (hSS s hs).2.2, hGG.2.1, hGG.2.2⟩
  · obtain ⟨i, j, n, e, i1, j1, ij, -⟩ := b1 s hs
    obtain ⟨c1, c2, -⟩ := hSS s hs
    have hi : tone (tZ x) s = i := by
      show ((xS x).getD s s0).1.toNatClampNeg = i
      rw [e]; exact nI_clamp (by have := b9.1; omega)
    have hj : toth (tZ x) s = j := by
      show ((xS x).getD s s0).2.1.toNatClampNeg = j
      rw [e]; exact nI_clamp (by have := b9.1; omega)
    rw [hi, hj]
    exact ⟨⟨by rw [c1, e], i1⟩, ⟨by rw [c2, e], j1⟩, ij⟩
  · obtain ⟨f, g1, g2, g3, g4⟩ := hL.2.2 k hk
    exact ⟨f, g1, g2, by show f + (xA x k).length ≤ 130 * sd + 130; omega, g4.keep (by omega) (fun _ _ _ => ⟨rfl, rfl⟩) (fun _ _ _ _ _ _ => rfl)⟩
abbrev Drd : List Nat := [2, 3, 4, 5, 9, 10, 11, 12, 13, 14, 15, 16, 17, 18, 19, 20, 21, 22, 23, 24, 25, 26, 27, 28, 29, 30, 31, 32, 33]
abbrev Frd : List Nat := [2, 4, 10, 11, 12, 13, 14, 15, 16, 17, 19, 20, 39, 45, 49]
abbrev Drk : List Nat := [2, 3, 4, 5, 9, 10, 11, 12, 13, 14, 15, 16, 17, 18, 19, 20, 21, 22, 23, 24, 25, 26, 27, 28, 29, 30, 31, 32, 33, 36, 37, 49]
abbrev Frk : List Nat := [2, 4, 10, 11, 12, 13, 14, 15, 16, 17, 18, 19, 20, 39, 45, 49, 55, 56, 60, 66]
def isBy (P : List Int32) : Prop := ∀ i, (P.getD i 0).toInt8.toInt32 = P.getD i 0
/-- the end of a reading -/
def mRd (b lv : Nat) (t : ZT) (P : List Int32) (z : Nat) (h : Nat → Option zSh) (S : Nat → Nat → Int32) (L : Nat → Nat → Int64) (r : Option Value) (X : zX) : Prop := ∃ S' L', X = (z, h, S', L') ∧ (∀ a, a ≠ b + 6 → a ≠ b + 8 → L' a = L a) ∧ S' b 2 = nI 0 ∧
  ((∃ n pl, pTxt P = .error (n, pl) ∧ r = some (.int (nI n)) ∧ S' b 17 = nI pl ∧ zfr Drd Frd b S S' ∧ mXs b S' lv t) ∨
   ∃ x, pTxt P = .ok x ∧ r = some (.int (nI 0)) ∧ S' b 17 = -1 ∧ zfr Drk Frk b S S' ∧ mXs b S' (1 - lv) (tZ x) ∧ mZ b S' ∧ S' (b + 36) = rZ x ∧ S' b 60 = nI 0 ∧ S' b 66 = nI 0 ∧ ∀ s, s < 3 → S' (b + 49) s = nI 0)
/-- behind the loop, in order -/
theorem rd_end {V : zV} {lv : Nat} {t : ZT} {P : List Int32} (hVl : V.1 = l) (hVE : V.2.1 = E) (hVd : V.2.2.1 = 7) (hM : isM h b) {S1 : Nat → Nat → Int32} {L1 : Nat → Nat → Int64} (hA : A = tkA P) (hlv : lv < 2) (hsd : sd = 1 - lv) (hZ : mZ b S) (hX : mXs b S1 lv t) (h2 : S1 b 2 = nI 0) (hf : zfr Drd Frd b S S1) (hL1 : ∀ a, a ≠ b + 6 → a ≠ b + 8 → L1 a = L a) {p : zPX} (hP : mPx b S1 L1 A sd p) (hR : pRd (tkA P) 401 (x0, 0, 0, 0) = .ok p) (x1 : Option Value)
    (hVQ : ∀ r X, mRd b lv t P z h S L r X → V.2.2.2.2.2.1 r X) :
    zW V YX10_read 134 [some (.ref b), x1] [] (z, h, S1, L1) 0 0 := by
  obtain ⟨x, q⟩ := p
  obtain ⟨hC, hB, h12, nb, nc, hLw, hnb, hnc⟩ := id hP
  have hC : mC b S1 L1 A (.ok q) := hC
  have hB : mB b S1 L1 sd x := hB
  have hLw : mLw b S1 sd x nb nc := hLw
  have hnb : 4 * nb ≤ q.1 := hnb
  have hnc : nc ≤ q.1 := hnc
  obtain ⟨-, h13, h11, hq4, hal, h15, hw5, h16⟩ := id hC
  have e0 : pTxt P = pEnd (tkA P) (x, q) := by rw [pTxt, hR]; rfl
  by_cases hw0 : q.2.1 = 0
  · have h15' : S1 b 15 = nI 0 := by rw [h15, hw0]
    have e1 : pTxt P = .ok x := by rw [e0, pEnd, if_pos (show (x, q).2.2.1 = 0 from hw0)]
    have hx := pTxt_OK e1
    have h19 : S1 b 19 = nI sd := hB.cnt.1.1
    refine sX10_read_134 _ _ _ _ _ ?_
    simp (disch := omega) only [oAld, oGI, oIf, oNop, oPush, hM.1, h13, h15', List.getElem?_cons_zero, List.getElem?_cons_succ, List.set_cons_zero, List.set_cons_succ, List.drop_succ_cons, List.drop_zero, List.take_succ_cons, List.take_zero, List.length_cons, List.length_nil, List.reverse_cons, List.reverse_nil, List.nil_append, List.cons_append, Option.toList_some, Option.toList_none, va_rf_s, true_and, and_true, true_implies, false_implies, not_true_eq_false, not_false_eq_true, Nat.reduceAdd, Nat.reduceLeDiff, Nat.le_add_left, Nat.zero_le, Nat.le_refl, znew, true_or, or_true, b01_t, b01_f, b01_ok, bool_ft, vp_b01, vp_b0, vp_b1, b01_eq0, b01_eq1, implies_true, nI_add, nI_clamp, zi_in, zi_le_t, zi_le_f, zi_lt_t, zi_lt_f, zi_eq_t, zi_eq_f, nI_leI, nI_ltI, nI_eq, z_in, pk_mul, zu_same, zu_rw, zu_ix, zi_ne0, zi_sub, zi_m1, Nat.add_sub_cancel, Nat.reduceMul, Nat.reduceSub]
    refine sX10_read_164 _ _ _ _ _ ?_
    simp (disch := omega) only [oAld, oCV, oGI, oIf, oPI, oRI, hM.1, h13, h15', h19, List.getElem?_cons_zero, List.getElem?_cons_succ, List.set_cons_zero, List.set_cons_succ, List.drop_succ_cons, List.drop_zero, List.take_succ_cons, List.take_zero, List.length_cons, List.length_nil, List.reverse_cons, List.reverse_nil, List.nil_append, List.cons_append, Option.toList_some, Option.toList_none, va_rf_s, true_and, and_true, true_implies, false_implies, not_true_eq_false, not_false_eq_true, Nat.reduceAdd, Nat.reduceLeDiff, Nat.le_add_left, Nat.zero_le, Nat.le_refl, znew, true_or, or_true, b01_t, b01_f, b01_ok, bool_ft, vp_b01, vp_b0, vp_b1, b01_eq0, b01_eq1, implies_true, nI_add, nI_clamp, zi_in, zi_le_t, zi_le_f, zi_lt_t, zi_lt_f, zi_eq_t, zi_eq_f, nI_leI, nI_ltI, nI_eq, z_in, pk_mul, zu_same, zu_rw, zu_ix, zi_ne0, zi_sub, zi_m1, Nat.add_sub_cancel, Nat.reduceMul, Nat.reduceSub]
    have hf2 : zfr [] [17, 18] b S1 (zu (zu S1 b 17 (-1)) b 18 (nI sd)) := (zfr.rf.fld (by decide)).fld (by decide)
    have h18 : zu (zu S1 b 17 (-1)) b 18 (nI sd) b 18 = nI sd := zu_same _ _ _ _
    have h17 : zu (zu S1 b 17 (-1)) b 18 (nI sd) b 17 = -1 := by simp (disch := omega) only [List.getElem?_cons_zero, List.getElem?_cons_succ, List.set_cons_zero, List.set_cons_succ, List.drop_succ_cons, List.drop_zero, List.take_succ_cons, List.take_zero, List.length_cons, List.length_nil, List.reverse_cons, List.reverse_nil, List.nil_append, List.cons_append, Option.toList_some, Option.toList_none, va_rf_s, true_and, and_true, true_implies, false_implies, not_true_eq_false, not_false_eq_true, Nat.reduceAdd, Nat.reduceLeDiff, Nat.le_add_left, Nat.zero_le, Nat.le_refl, znew, true_or, or_true, b01_t, b01_f, b01_ok, bool_ft, vp_b01, vp_b0, vp_b1, b01_eq0, b01_eq1, implies_true, nI_add, nI_clamp, zi_in, zi_le_t, zi_le_f, zi_lt_t, zi_lt_f, zi_eq_t, zi_eq_f, nI_leI, nI_ltI, nI_eq, z_in, pk_mul, zu_same, zu_rw, zu_ix, zi_ne0, zi_sub, zi_m1, Nat.add_sub_cancel, Nat.reduceMul, Nat.reduceSub, ]
    generalize zu (zu S1 b 17 (-1)) b 18 (nI sd) = S2 at hf2 h18 h17 ⊢
    have hB2 : mB b S2 L1 sd x := hB.fr hf2 rfl rfl rfl
    have hX2 : mXs b S2 sd (tZ x) := hB2.text (hLw.fr hf2 rfl rfl rfl) (by omega) (by omega) hx h18
    have hf02 : zfr Drk Frk b S S2 := hf.tr hf2 rfl rfl rfl rfl
    refine zC.of0 (zX10_begins hM hX2.1 (fun j hj => by rw [hf2.at (o := 37) rfl rfl, hf.at (o := 37) rfl rfl]; exact hZ.2 j hj)) (by omega) (Nat.zero_le _) (Nat.zero_le _) ?_
    rintro _ _ ⟨rfl, S3, rfl, hf3, hr3, -, -⟩
    have hrow : S3 (b + 37) = rZ x := by
      rw [hr3]
      funext j
      obtain ⟨-, -, hYY, hWW, hGG, -⟩ := id hB2
      unfold begF rZ
      show (if j < (xY x).length then _ else if 36 ≤ j ∧ j < 36 + (xW x).length then _ else if j = 46 then (if (xC x).length = 0 then -2 else S2 (b + 21) sd) else nI 0) = _
      by_cases h1 : j < (xY x).length
      · rw [if_pos h1, if_pos h1]; exact (hYY j h1).2.2
      · rw [if_neg h1, if_neg h1]
        by_cases h2 : 36 ≤ j ∧ j < 36 + (xW x).length
        · rw [if_pos h2, if_pos h2]; exact hWW (j - 36) (by omega)
        · rw [if_neg h2, if_neg h2, hGG.1]
    have hZ3 : mZ b S3 := by
      refine ⟨fun j hj => by rw [hf3.at (o := 36) rfl rfl, hf2.at (o := 36) rfl rfl, hf.at (o := 36) rfl rfl]; exact hZ.1 j hj, fun j hj => ?_⟩
      have := hx.2.2.2.2.2.2.2
      rw [hrow, rZ, if_neg (by omega), if_neg (by omega), if_neg (by omega)]
    refine sX10_read_203 _ _ _ _ _ ?_
    simp (disch := omega) only [oAld, oCV, hM.1, List.getElem?_cons_zero, List.getElem?_cons_succ, List.set_cons_zero, List.set_cons_succ, List.drop_succ_cons, List.drop_zero, List.take_succ_cons, List.take_zero, List.length_cons, List.length_nil, List.reverse_cons, List.reverse_nil, List.nil_append, List.cons_append, Option.toList_some, Option.toList_none, va_rf_s, true_and, and_true, true_implies, false_implies, not_true_eq_false, not_false_eq_true, Nat.reduceAdd, Nat.reduceLeDiff, Nat.le_add_left, Nat.zero_le, Nat.le_refl, znew, true_or, or_true, b01_t, b01_f, b01_ok, bool_ft, vp_b01, vp_b0, vp_b1, b01_eq0, b01_eq1, implies_true, nI_add, nI_clamp, zi_in, zi_le_t, zi_le_f, zi_lt_t, zi_lt_f, zi_eq_t, zi_eq_f, nI_leI, nI_ltI, nI_eq, z_in, pk_mul, zu_same, zu_rw, zu_ix, zi_ne0, zi_sub, zi_m1, Nat.add_sub_cancel, Nat.reduceMul, Nat.reduceSub]
    refine zC.of0 (zX10_keepsRow hM hZ3) (by omega) (Nat.zero_le _) (Nat.zero_le _) ?_
    rintro _ _ ⟨rfl, S4, rfl, hf4, hr4⟩
    refine sX10_read_207 _ _ _ _ _ ?_
    simp (disch := omega) only [oAld, oIst, oPI, oPush, hM.1, List.getElem?_cons_zero, List.getElem?_cons_succ, List.set_cons_zero, List.set_cons_succ, List.drop_succ_cons, List.drop_zero, List.take_succ_cons, List.take_zero, List.length_cons, List.length_nil, List.reverse_cons, List.reverse_nil, List.nil_append, List.cons_append, Option.toList_some, Option.toList_none, va_rf_s, true_and, and_true, true_implies, false_implies, not_true_eq_false, not_false_eq_true, Nat.reduceAdd, Nat.reduceLeDiff, Nat.le_add_left, Nat.zero_le, Nat.le_refl, znew, true_or, or_true, b01_t, b01_f, b01_ok, bool_ft, vp_b01, vp_b0, vp_b1, b01_eq0, b01_eq1, implies_true, nI_add, nI_clamp, zi_in, zi_le_t, zi_le_f, zi_lt_t, zi_lt_f, zi_eq_t, zi_eq_f, nI_leI, nI_ltI, nI_eq, z_in, pk_mul, zu_same, zu_rw, zu_ix, zi_ne0, zi_sub, zi_m1, Nat.add_sub_cancel, Nat.reduceMul, Nat.reduceSub]
    have hf5 : zfr [] [60, 66] b S4 (zu (zu S4 b 60 (nI 0)) b 66 (nI 0)) := (zfr.rf.fld (by decide)).fld (by decide)
    have h60 : zu (zu S4 b 60 (nI 0)) b 66 (nI 0) b 60 = nI 0 := by simp (disch := omega) only [List.getElem?_cons_zero, List.getElem?_cons_succ, List.set_cons_zero, List.set_cons_succ, List.drop_succ_cons, List.drop_zero, List.take_succ_cons, List.take_zero, List.length_cons, List.length_nil, List.reverse_cons, List.reverse_nil, List.nil_append, List.cons_append, Option.toList_some, Option.toList_none, va_rf_s, true_and, and_true, true_implies, false_implies, not_true_eq_false, not_false_eq_true, Nat.reduceAdd, Nat.reduceLeDiff, Nat.le_add_left, Nat.zero_le, Nat.le_refl, znew, true_or, or_true, b01_t, b01_f, b01_ok, bool_ft, vp_b01, vp_b0, vp_b1, b01_eq0, b01_eq1, implies_true, nI_add, nI_clamp, zi_in, zi_le_t, zi_le_f, zi_lt_t, zi_lt_f, zi_eq_t, zi_eq_f, nI_leI, nI_ltI, nI_eq, z_in, pk_mul, zu_same, zu_rw, zu_ix, zi_ne0, zi_sub, zi_m1, Nat.add_sub_cancel, Nat.reduceMul, Nat.reduceSub, ]
    have h66 : zu (zu S4 b 60 (nI 0)) b 66 (nI 0) b 66 = nI 0 := zu_same _ _ _ _
    generalize zu (zu S4 b 60 (nI 0)) b 66 (nI 0) = S5 at hf5 h60 h66 ⊢
    have hf35 : zfr [36, 37] [55, 56, 60, 66] b S2 S5 := (hf3.tr hf4 rfl rfl rfl rfl (D2 := [36, 37]) (F2 := [55, 56])).tr hf5 rfl rfl rfl rfl
    have loop : ∀ s, s ≤ 3 → ∀ S6, zfr [49] [] b S5 S6 → (∀ j, j < s → S6 (b + 49) j = nI 0) → zW V YX10_read 219 [some (.ref b), some (.int (nI s))] [] (z, h, S6, L1) 0 0 := by
      refine z_down ?_ (fun s hs ih => ?_)
      · intro S6 hf6 hh
        refine sX10_read_219 _ _ _ _ _ ?_
        simp (disch := omega) only [oAld, oAst1, oGR, oIfc, oIld, oInc, oNop, oPush, oRI, hM.1, hM.r70, hM.t70, hM.n70, List.getElem?_cons_zero, List.getElem?_cons_succ, List.set_cons_zero, List.set_cons_succ, List.drop_succ_cons, List.drop_zero, List.take_succ_cons, List.take_zero, List.length_cons, List.length_nil, List.reverse_cons, List.reverse_nil, List.nil_append, List.cons_append, Option.toList_some, Option.toList_none, va_rf_s, true_and, and_true, true_implies, false_implies, not_true_eq_false, not_false_eq_true, Nat.reduceAdd, Nat.reduceLeDiff, Nat.le_add_left, Nat.zero_le, Nat.le_refl, znew, true_or, or_true, b01_t, b01_f, b01_ok, bool_ft, vp_b01, vp_b0, vp_b1, b01_eq0, b01_eq1, implies_true, nI_add, nI_clamp, zi_in, zi_le_t, zi_le_f, zi_lt_t, zi_lt_f, zi_eq_t, zi_eq_f, nI_leI, nI_ltI, nI_eq, z_in, pk_mul, zu_same, zu_rw, zu_ix, zi_ne0, zi_sub, zi_m1, Nat.add_sub_cancel, Nat.reduceMul, Nat.reduceSub]
        have hfa : zfr [36, 37, 49] [55, 56, 60, 66] b S2 S6 := hf35.tr hf6 rfl rfl rfl rfl
        refine hVQ _ _ ⟨S6, L1, rfl, hL1, by rw [hf6.f rfl, hf5.f rfl, hf4.f rfl, hf3.f rfl, hf2.f rfl]; exact h2, Or.inr ⟨x, e1, rfl, by rw [hfa.f rfl]; exact h17, hf02.tr hfa rfl rfl rfl rfl, ?_, ?_, ?_, by rw [hf6.f rfl]; exact h60, by rw [hf6.f rfl]; exact h66, hh⟩⟩
        · rw [← hsd]; exact hX2.fr hfa rfl rfl
        · have e36 : S6 (b + 36) = rZ x := by rw [hf6.at (o := 36) rfl rfl, hf5.at (o := 36) rfl rfl, hr4, hrow]
          have e37 : S6 (b + 37) = rZ x := by rw [hf6.at (o := 37) rfl rfl, hf5.at (o := 37) rfl rfl, hf4.at (o := 37) rfl rfl, hrow]
          refine ⟨fun j hj => ?_, fun j hj => ?_⟩
          · rw [e36, ← hrow]; exact hZ3.2 j hj
          · rw [e37, ← hrow]; exact hZ3.2 j hj
        · rw [hf6.at (o := 36) rfl rfl, hf5.at (o := 36) rfl rfl, hr4, hrow]
      · intro S6 hf6 hh
        refine sX10_read_219 _ _ _ _ _ ?_
        simp (disch := omega) only [oAld, oAst1, oGR, oIfc, oIld, oInc, oNop, oPush, oRI, hM.1, hM.r70, hM.t70, hM.n70, List.getElem?_cons_zero, List.getElem?_cons_succ, List.set_cons_zero, List.set_cons_succ, List.drop_succ_cons, List.drop_zero, List.take_succ_cons, List.take_zero, List.length_cons, List.length_nil, List.reverse_cons, List.reverse_nil, List.nil_append, List.cons_append, Option.toList_some, Option.toList_none, va_rf_s, true_and, and_true, true_implies, false_implies, not_true_eq_false, not_false_eq_true, Nat.reduceAdd, Nat.reduceLeDiff, Nat.le_add_left, Nat.zero_le, Nat.le_refl, znew, true_or, or_true, b01_t, b01_f, b01_ok, bool_ft, vp_b01, vp_b0, vp_b1, b01_eq0, b01_eq1, implies_true, nI_add, nI_clamp, zi_in, zi_le_t, zi_le_f, zi_lt_t, zi_lt_f, zi_eq_t, zi_eq_f, nI_leI, nI_ltI, nI_eq, z_in, pk_mul, zu_same, zu_rw, zu_ix, zi_ne0, zi_sub, zi_m1, Nat.add_sub_cancel, Nat.reduceMul, Nat.reduceSub]
        refine ih _ (hf6.row (by decide) (by decide)) (fun j hj => ?_)
        rw [zu_rowj]
        by_cases he : j = s
        · rw [if_pos he]
        · rw [if_neg he]; exact hh j (by omega)
    exact loop 0 (by omega) S5 zfr.rf (fun j hj => by omega)
  · obtain ⟨h16', hwl⟩ := h16 hw0
    have e1 : pTxt P = .error (q.2.1, tkP A q.2.2) := by rw [e0, pEnd, if_neg (show ¬ (x, q).2.2.1 = 0 from hw0), hA]
    refine sX10_read_134 _ _ _ _ _ ?_
    simp (disch := omega) only [oAld, oGI, oIf, oNop, oPush, hM.1, h13, h15, h16', List.getElem?_cons_zero, List.getElem?_cons_succ, List.set_cons_zero, List.set_cons_succ, List.drop_succ_cons, List.drop_zero, List.take_succ_cons, List.take_zero, List.length_cons, List.length_nil, List.reverse_cons, List.reverse_nil, List.nil_append, List.cons_append, Option.toList_some, Option.toList_none, va_rf_s, true_and, and_true, true_implies, false_implies, not_true_eq_false, not_false_eq_true, Nat.reduceAdd, Nat.reduceLeDiff, Nat.le_add_left, Nat.zero_le, Nat.le_refl, znew, true_or, or_true, b01_t, b01_f, b01_ok, bool_ft, vp_b01, vp_b0, vp_b1, b01_eq0, b01_eq1, implies_true, nI_add, nI_clamp, zi_in, zi_le_t, zi_le_f, zi_lt_t, zi_lt_f, zi_eq_t, zi_eq_f, nI_leI, nI_ltI, nI_eq, z_in, pk_mul, zu_same, zu_rw, zu_ix, zi_ne0, zi_sub, zi_m1, Nat.add_sub_cancel, Nat.reduceMul, Nat.reduceSub]
    refine sX10_read_164 _ _ _ _ _ ?_
    simp (disch := omega) only [oAld, oCV, oGI, oIf, oPI, oRI, hM.1, h13, h15, List.getElem?_cons_zero, List.getElem?_cons_succ, List.set_cons_zero, List.set_cons_succ, List.drop_succ_cons, List.drop_zero, List.take_succ_cons, List.take_zero, List.length_cons, List.length_nil, List.reverse_cons, List.reverse_nil, List.nil_append, List.cons_append, Option.toList_some, Option.toList_none, va_rf_s, true_and, and_true, true_implies, false_implies, not_true_eq_false, not_false_eq_true, Nat.reduceAdd, Nat.reduceLeDiff, Nat.le_add_left, Nat.zero_le, Nat.le_refl, znew, true_or, or_true, b01_t, b01_f, b01_ok, bool_ft, vp_b01, vp_b0, vp_b1, b01_eq0, b01_eq1, implies_true, nI_add, nI_clamp, zi_in, zi_le_t, zi_le_f, zi_lt_t, zi_lt_f, zi_eq_t, zi_eq_f, nI_leI, nI_ltI, nI_eq, z_in, pk_mul, zu_same, zu_rw, zu_ix, zi_ne0, zi_sub, zi_m1, Nat.add_sub_cancel, Nat.reduceMul, Nat.reduceSub]
    have hf2 : zfr [] [17] b S1 (zu S1 b 17 (nI (tkP A q.2.2))) := zfr.rf.fld (by decide)
    exact hVQ _ _ ⟨_, L1, rfl, hL1, by rw [hf2.f rfl]; exact h2, Or.inl ⟨_, _, e1, rfl, zu_same _ _ _ _, hf.tr hf2 rfl rfl rfl rfl, hX.fr hf2 rfl rfl⟩⟩
end NM
