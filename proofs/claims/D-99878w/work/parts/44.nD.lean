/-! reading: laws -/
def brIn (b : Nat) (S : Nat → Nat → Int32) (lo hi j : Nat) (q : zBr3) : Prop := S (b + 26) j = b01 q.1 ∧ ∃ t e, (q.1 = true → ∃ f m, (S (b + 27) j = nI f ∧ S (b + 28) j = nI m) ∧ (lo ≤ f ∧ codeAt (S (b + 31)) (S (b + 32)) f q.2.1 ∧ f + q.2.1.length = m ∧ cOK q.2.1) ∧ codeAt (S (b + 31)) (S (b + 32)) m q.2.2.1 ∧ m + q.2.2.1.length = t ∧ cOK q.2.2.1) ∧ (S (b + 29) j = nI t ∧ S (b + 30) j = nI e) ∧ lo ≤ t ∧ codeAt (S (b + 31)) (S (b + 32)) t q.2.2.2 ∧ t + q.2.2.2.length = e ∧ e ≤ hi ∧ cOK q.2.2.2
def brsIn (b : Nat) (S : Nat → Nat → Int32) (lo hi : Nat) : Nat → List zBr3 → Prop
  | _, [] => True
  | j, q :: qs => brIn b S lo hi j q ∧ brsIn b S lo hi (j + 1) qs
def lawIn (b : Nat) (S : Nat → Nat → Int32) (sd nb nc p : Nat) (law : List zBr3) : Prop := ∃ f, (S (b + 24) p = nI f ∧ S (b + 25) p = nI (f + law.length)) ∧ (law ≠ [] → 130 * sd ≤ f) ∧ f + law.length ≤ 130 * sd + nb ∧ brsIn b S (420 * sd) (420 * sd + nc) f law
theorem brIn.keep {b : Nat} {S S' : Nat → Nat → Int32} {lo hi hi' j : Nat} {q : zBr3} (h : brIn b S lo hi j q) (hh : hi ≤ hi') (hr : ∀ o, 26 ≤ o → o ≤ 30 → S' (b + o) j = S (b + o) j) (hc : ∀ i, lo ≤ i → i < hi → S' (b + 31) i = S (b + 31) i ∧ S' (b + 32) i = S (b + 32) i) : brIn b S' lo hi' j q := by
  obtain ⟨h1, t, e, h2, h3, h4, h5, h6, h7, h8⟩ := h
  refine ⟨(hr 26 (by omega) (by omega)).trans h1, t, e, fun ht => ?_, ⟨(hr 29 (by omega) (by omega)).trans h3.1, (hr 30 (by omega) (by omega)).trans h3.2⟩, h4, codeAt_keep h5 (fun i a b => hc i (by omega) (by omega)), h6, by omega, h8⟩
  obtain ⟨f, m, g1, ⟨g2, g3, g4, g5⟩, g6, g7, g8⟩ := h2 ht
  exact ⟨f, m, ⟨(hr 27 (by omega) (by omega)).trans g1.1, (hr 28 (by omega) (by omega)).trans g1.2⟩, ⟨g2, codeAt_keep g3 (fun i a b => hc i (by omega) (by omega)), g4, g5⟩, codeAt_keep g6 (fun i a b => hc i (by omega) (by omega)), g7, g8⟩
theorem brsIn.keep {b : Nat} {S S' : Nat → Nat → Int32} {lo hi hi' : Nat} (hh : hi ≤ hi') (hc : ∀ i, lo ≤ i → i < hi → S' (b + 31) i = S (b + 31) i ∧ S' (b + 32) i = S (b + 32) i) : ∀ {qs : List zBr3} {j : Nat}, brsIn b S lo hi j qs → (∀ i, j ≤ i → i < j + qs.length → ∀ o, 26 ≤ o → o ≤ 30 → S' (b + o) i = S (b + o) i) → brsIn b S' lo hi' j qs
  | [], _, _, _ => trivial
  | q :: qs, j, h, hr => ⟨h.1.keep hh (hr j (Nat.le_refl _) (by rw [List.length_cons]; omega)) hc, brsIn.keep hh hc h.2 (fun i h1 h2 => hr i (by omega) (by rw [List.length_cons]; omega))⟩
theorem brsIn.snoc {b : Nat} {S : Nat → Nat → Int32} {lo hi : Nat} {q : zBr3} : ∀ {qs : List zBr3} {j : Nat}, brsIn b S lo hi j qs → brIn b S lo hi (j + qs.length) q → brsIn b S lo hi j (qs ++ [q])
  | [], _, _, h => ⟨h, trivial⟩
  | p :: qs, j, h, h2 => ⟨h.1, brsIn.snoc h.2 (by rw [List.length_cons] at h2; rw [show j + 1 + qs.length = j + (qs.length + 1) by omega]; exact h2)⟩
def mLw (b : Nat) (S : Nat → Nat → Int32) (sd : Nat) (x : zTx) (nb nc : Nat) : Prop := S b 39 = nI (130 * sd + nb) ∧ S b 45 = nI (420 * sd + nc) ∧ ∀ k, k < 4 → lawIn b S sd nb nc (4 * sd + k) (xA x k)
/-- what a law may change: branches from m on, code from c on -/
def lwF (b : Nat) (S S' : Nat → Nat → Int32) (m c sd : Nat) : Prop := zfr [26, 27, 28, 29, 30, 31, 32, 33] [11, 12, 13, 14, 39, 45, 49] b S S' ∧ (∀ o, 26 ≤ o → o ≤ 30 → ∀ j, j < m ∨ 130 * sd + 130 ≤ j → S' (b + o) j = S (b + o) j) ∧ cdF b S S' c (420 * sd + 420)
theorem lwF.rf {b m c sd : Nat} {S : Nat → Nat → Int32} : lwF b S S m c sd := ⟨zfr.rf, fun _ _ _ _ _ => rfl, fun _ _ => ⟨rfl, rfl⟩⟩
theorem lwF.tr {b m m' m'' c c' c'' sd : Nat} {S S' S'' : Nat → Nat → Int32} (h : lwF b S S' m' c' sd) (h' : lwF b S' S'' m'' c'' sd) (h1 : m ≤ m') (h2 : m ≤ m'') (h3 : c ≤ c') (h4 : c ≤ c'') : lwF b S S'' m c sd := ⟨h.1.tt h'.1, fun o o1 o2 j hj => (h'.2.1 o o1 o2 j (by omega)).trans (h.2.1 o o1 o2 j (by omega)), (h.2.2.wd h3 (Nat.le_refl _)).tt (h'.2.2.wd h4 (Nat.le_refl _))⟩
theorem lwF.fl {b m c sd : Nat} {S S' : Nat → Nat → Int32} {F : List Nat} (hf : zfr [] F b S S') (hF : F.all (fun x => [11, 12, 13, 14, 39, 45, 49].contains x) = true) : lwF b S S' m c sd := ⟨hf.tr zfr.rf rfl hF (D' := []) (F' := []) rfl rfl, fun o o1 o2 j _ => by rw [hf.1 (b + o) (by omega) (fun x hx => by cases hx)], hf.cd rfl rfl⟩
theorem lwF.row {b m c sd o k : Nat} {v : Int32} {S : Nat → Nat → Int32} (ho : o ∈ [26, 27, 28, 29, 30]) (hk : m ≤ k) (hk2 : k < 130 * sd + 130) : lwF b S (zu S (b + o) k v) m c sd := by
  refine ⟨zfr.rf.row ?_ ?_, fun o2 o1 o3 j hj => ?_, fun j _ => ?_⟩
  · simp at ho ⊢; omega
  · simp at ho; omega
  · by_cases he : o2 = o
    · subst he; rw [zu_ix _ _ (by omega)]
    · rw [zu_rw _ _ (by omega)]
  · simp at ho
    rw [zu_rw _ _ (by omega), zu_rw _ _ (by omega)]; exact ⟨rfl, rfl⟩
theorem lwF.ex {b m c c0 sd : Nat} {S S' : Nat → Nat → Int32} (hx : exF b S S' c0 sd) (hc : c ≤ c0) : lwF b S S' m c sd := ⟨hx.1.tr zfr.rf rfl rfl (D' := []) (F' := []) rfl rfl, fun o o1 o2 j _ => by rw [hx.1.1 (b + o) (by omega) (fun x hx => by simp at hx; omega)], hx.2.wd hc (Nat.le_refl _)⟩
theorem lwF.o {b m c sd : Nat} {S S' : Nat → Nat → Int32} (h : lwF b S S' m c sd) {o : Nat} (ho : o < 26 ∨ 33 < o) (h0 : o ≠ 0) : S' (b + o) = S (b + o) := h.1.1 (b + o) (by omega) (fun x hx => by simp at hx; omega)
theorem lwF.f {b m c sd : Nat} {S S' : Nat → Nat → Int32} (h : lwF b S S' m c sd) {j : Nat} (hj : [11, 12, 13, 14, 39, 45, 49].all (fun x => !(x == j)) = true) : S' b j = S b j := h.1.f hj
theorem lwF.sd {b m c sd : Nat} {S S' : Nat → Nat → Int32} (h : lwF b S S' m c sd) (hsd : sd < 2) (hm : 130 * sd ≤ m) (hc : 420 * sd ≤ c) : mF b sd S S' := by
  refine ⟨h.1.tr zfr.rf rfl rfl (D' := []) (F' := []) rfl rfl, fun o h1 h2 j h3 h4 => ?_⟩
  have hs : sd = 0 ∨ sd = 1 := by omega
  by_cases h31 : 31 ≤ o
  · have hw : wd o = 420 := by
      have : o = 31 ∨ o = 32 := by omega
      rcases this with rfl | rfl <;> rfl
    rw [hw] at h3 h4
    have hj : j < c ∨ 420 * sd + 420 ≤ j := by
      rcases hs with rfl | rfl
      · right; simp at h3; omega
      · left; simp at h4; omega
    have : o = 31 ∨ o = 32 := by omega
    rcases this with rfl | rfl
    · exact (h.2.2 j hj).1
    · exact (h.2.2 j hj).2
  · by_cases h26 : 26 ≤ o
    · have hw : wd o = 130 := by
        have : o = 26 ∨ o = 27 ∨ o = 28 ∨ o = 29 ∨ o = 30 := by omega
        rcases this with rfl | rfl | rfl | rfl | rfl <;> rfl
      rw [hw] at h3 h4
      refine h.2.1 o h26 (by omega) j ?_
      rcases hs with rfl | rfl
      · right; simp at h3; omega
      · left; simp at h4; omega
    · rw [h.o (by omega) (by omega)]
section ND
variable {l : Launch} {E : zE} {b z : Nat} {h : Nat → Option zSh} {S : Nat → Nat → Int32} {L : Nat → Nat → Int64} {A : List zTk} {sd : Nat} {x : zTx}
theorem zX10_term {st : zPR zCu} {c0 m : Nat} (hM : isM h b) (hA : tkW A) (hsd : sd < 2) (hc0 : 420 * sd ≤ c0) (hC : mC b S L A st) (h45 : S b 45 = nI c0) (hc1 : c0 ≤ 420 * sd + 420) (h39 : S b 39 = nI m) (hm : m < 130 * sd + 130) (hq : ∀ q, st = .ok q → S b 12 = nI 0 ∧ c0 ≤ 420 * sd + q.1) :
    zM l E 4 YX10_term [.ref b] (z, h, S, L) 0 0 (fun r X => r = none ∧ ∃ S' d, X = (z, h, S', L) ∧ lwF b S S' m c0 sd ∧ ((∀ o, 26 ≤ o → o ≤ 28 → S' (b + o) = S (b + o)) ∧ S' (b + 29) m = nI c0 ∧ S' (b + 30) m = nI d ∧ S' b 39 = nI (m + 1)) ∧ mC b S' L A (pV (pB st (rdX A 6))) ∧ (S' b 45 = nI d ∧ c0 ≤ d ∧ d ≤ 420 * sd + 420) ∧ ∀ cl q', pB st (rdX A 6) = .ok (cl, q') → d = c0 + cl.length ∧ codeAt (S' (b + 31)) (S' (b + 32)) c0 cl ∧ S' b 12 = nI 0 ∧ d ≤ 420 * sd + q'.1) (fun _ _ => False) := by
  refine zM.go rfl rfl (Nat.le_of_ble_eq_true rfl) (ls := [some (.ref b)]) rfl ?_
  intro V hVl hVE hVd hVc hVs hVQ hVX
  have hC1 := hC.row (o := 29) (k := m) (v := nI c0) (by omega)
  have hr29 : zfr [29] [] b S (zu S (b + 29) m (nI c0)) := zfr.rf.row (by decide) (by decide)
  have fin : ∀ (S1 : Nat → Nat → Int32) (d : Nat), zfr [31, 32, 33] [11, 12, 13, 14, 45, 49] b (zu S (b + 29) m (nI c0)) S1 → cdF b (zu S (b + 29) m (nI c0)) S1 c0 (420 * sd + 420) → mC b S1 L A (pV (pB st (rdX A 6))) → (S1 b 45 = nI d ∧ c0 ≤ d ∧ d ≤ 420 * sd + 420) → (∀ cl q', pB st (rdX A 6) = .ok (cl, q') → d = c0 + cl.length ∧ codeAt (S1 (b + 31)) (S1 (b + 32)) c0 cl ∧ S1 b 12 = nI 0 ∧ d ≤ 420 * sd + q'.1) → zW V YX10_term 24 [some (.ref b)] [] (z, h, S1, L) 0 0 := by
    intro S1 d hf1 hcd1 hC1 hd hok
    have h39' : S1 b 39 = nI m := by rw [hf1.f rfl, hr29.f rfl]; exact h39
    have h45' := hd.1
    refine sX10_term_24 _ _ _ _ _ ?_
    simp (disch := omega) only [oAld, oAst1, oBin, oDup, oGI, oGR, oPI, oPush, oRV, hM.1, hM.r44, hM.t44, hM.n44, h39', h45', List.getElem?_cons_zero, List.getElem?_cons_succ, List.set_cons_zero, List.set_cons_succ, List.drop_succ_cons, List.drop_zero, List.take_succ_cons, List.take_zero, List.length_cons, List.length_nil, List.reverse_cons, List.reverse_nil, List.nil_append, List.cons_append, Option.toList_some, Option.toList_none, va_rf_s, true_and, and_true, true_implies, false_implies, not_true_eq_false, not_false_eq_true, Nat.reduceAdd, Nat.reduceLeDiff, Nat.le_add_left, Nat.zero_le, Nat.le_refl, znew, true_or, or_true, b01_t, b01_f, b01_ok, bool_ft, vp_b01, vp_b0, vp_b1, b01_eq0, b01_eq1, implies_true, nI_add, nI_clamp, zi_in, zi_le_t, zi_le_f, zi_lt_t, zi_lt_f, zi_eq_t, zi_eq_f, nI_leI, nI_ltI, nI_eq, z_in, pk_mul, zu_same, zu_rw, zu_ix, zi_ne0, zi_sub, zi_m1, Nat.add_sub_cancel, Nat.reduceMul, Nat.reduceSub]
    have hf2 : zfr [30] [39] b S1 (zu (zu S1 (b + 30) m (nI d)) b 39 (nI (m + 1))) := (zfr.rf.row (by decide) (by decide)).fld (by decide)
    have hl2 : lwF b S (zu (zu S1 (b + 30) m (nI d)) b 39 (nI (m + 1))) m c0 sd := by
      have a1 : lwF b S (zu S (b + 29) m (nI c0)) m c0 sd := lwF.row (by decide) (Nat.le_refl _) hm
      have a2 : lwF b (zu S (b + 29) m (nI c0)) S1 m c0 sd := lwF.ex ⟨hf1, hcd1⟩ (Nat.le_refl _)
      have a3 : lwF b S1 (zu S1 (b + 30) m (nI d)) m c0 sd := lwF.row (by decide) (Nat.le_refl _) hm
      have a4 : lwF b (zu S1 (b + 30) m (nI d)) (zu (zu S1 (b + 30) m (nI d)) b 39 (nI (m + 1))) m c0 sd := lwF.fl (zfr.rf.fld (F := [39]) (by decide)) rfl
      exact (((a1.tr a2 (Nat.le_refl _) (Nat.le_refl _) (Nat.le_refl _) (Nat.le_refl _)).tr a3 (Nat.le_refl _) (Nat.le_refl _) (Nat.le_refl _) (Nat.le_refl _)).tr a4 (Nat.le_refl _) (Nat.le_refl _) (Nat.le_refl _) (Nat.le_refl _))
    refine hVQ _ _ ⟨rfl, _, d, rfl, hl2, ⟨?_, ?_, ?_, ?_⟩, hC1.frL hf2 rfl rfl (fun _ _ => rfl), ⟨by rw [hf2.f rfl]; exact h45', hd.2⟩, ?_⟩
    · intro o o1 o2
      rw [hf2.1 (b + o) (by omega) (fun x hx => by simp at hx; omega), hf1.1 (b + o) (by omega) (fun x hx => by simp at hx; omega), zu_rw _ _ (by omega)]
    · rw [hf2.at (o := 29) rfl rfl, hf1.at (o := 29) rfl rfl, zu_same]
    · simp (disch := omega) only [List.getElem?_cons_zero, List.getElem?_cons_succ, List.set_cons_zero, List.set_cons_succ, List.drop_succ_cons, List.drop_zero, List.take_succ_cons, List.take_zero, List.length_cons, List.length_nil, List.reverse_cons, List.reverse_nil, List.nil_append, List.cons_append, Option.toList_some, Option.toList_none, va_rf_s, true_and, and_true, true_implies, false_implies, not_true_eq_false, not_false_eq_true, Nat.reduceAdd, Nat.reduceLeDiff, Nat.le_add_left, Nat.zero_le, Nat.le_refl, znew, true_or, or_true, b01_t, b01_f, b01_ok, bool_ft, vp_b01, vp_b0, vp_b1, b01_eq0, b01_eq1, implies_true, nI_add, nI_clamp, zi_in, zi_le_t, zi_le_f, zi_lt_t, zi_lt_f, zi_eq_t, zi_eq_f, nI_leI, nI_ltI, nI_eq, z_in, pk_mul, zu_same, zu_rw, zu_ix, zi_ne0, zi_sub, zi_m1, Nat.add_sub_cancel, Nat.reduceMul, Nat.reduceSub, ]
    · simp (disch := omega) only [List.getElem?_cons_zero, List.getElem?_cons_succ, List.set_cons_zero, List.set_cons_succ, List.drop_succ_cons, List.drop_zero, List.take_succ_cons, List.take_zero, List.length_cons, List.length_nil, List.reverse_cons, List.reverse_nil, List.nil_append, List.cons_append, Option.toList_some, Option.toList_none, va_rf_s, true_and, and_true, true_implies, false_implies, not_true_eq_false, not_false_eq_true, Nat.reduceAdd, Nat.reduceLeDiff, Nat.le_add_left, Nat.zero_le, Nat.le_refl, znew, true_or, or_true, b01_t, b01_f, b01_ok, bool_ft, vp_b01, vp_b0, vp_b1, b01_eq0, b01_eq1, implies_true, nI_add, nI_clamp, zi_in, zi_le_t, zi_le_f, zi_lt_t, zi_lt_f, zi_eq_t, zi_eq_f, nI_leI, nI_ltI, nI_eq, z_in, pk_mul, zu_same, zu_rw, zu_ix, zi_ne0, zi_sub, zi_m1, Nat.add_sub_cancel, Nat.reduceMul, Nat.reduceSub, ]
    · intro cl q' e
      obtain ⟨g1, g2, g3, g4⟩ := hok cl q' e
      exact ⟨g1, by rw [hf2.at (o := 31) rfl rfl, hf2.at (o := 32) rfl rfl]; exact g2, by rw [hf2.f rfl]; exact g3, g4⟩
  cases st with
  | error e =>
    obtain ⟨n, h13, hn, hn5⟩ := mC.bad (e := e) hC
    refine sX10_term_0 _ _ _ _ _ ?_
    simp (disch := omega) only [oAld, oAst1, oCV, oGI, oGR, oIf, hM.1, hM.r43, hM.t43, hM.n43, h39, h45, h13, List.getElem?_cons_zero, List.getElem?_cons_succ, List.set_cons_zero, List.set_cons_succ, List.drop_succ_cons, List.drop_zero, List.take_succ_cons, List.take_zero, List.length_cons, List.length_nil, List.reverse_cons, List.reverse_nil, List.nil_append, List.cons_append, Option.toList_some, Option.toList_none, va_rf_s, true_and, and_true, true_implies, false_implies, not_true_eq_false, not_false_eq_true, Nat.reduceAdd, Nat.reduceLeDiff, Nat.le_add_left, Nat.zero_le, Nat.le_refl, znew, true_or, or_true, b01_t, b01_f, b01_ok, bool_ft, vp_b01, vp_b0, vp_b1, b01_eq0, b01_eq1, implies_true, nI_add, nI_clamp, zi_in, zi_le_t, zi_le_f, zi_lt_t, zi_lt_f, zi_eq_t, zi_eq_f, nI_leI, nI_ltI, nI_eq, z_in, pk_mul, zu_same, zu_rw, zu_ix, zi_ne0, zi_sub, zi_m1, Nat.add_sub_cancel, Nat.reduceMul, Nat.reduceSub]
    exact fin _ c0 zfr.rf (fun _ _ => ⟨rfl, rfl⟩) hC1 ⟨by rw [hr29.f rfl]; exact h45, Nat.le_refl _, hc1⟩ (fun cl q' e => by cases e)
  | ok q =>
    have h13 := mC.good (q := q) hC
    have hq4 := hC.2.2.2.1
    obtain ⟨h12, hcq⟩ := hq q rfl
    refine sX10_term_0 _ _ _ _ _ ?_
    simp (disch := omega) only [oAld, oAst1, oCV, oGI, oGR, oIf, hM.1, hM.r43, hM.t43, hM.n43, h39, h45, h13, List.getElem?_cons_zero, List.getElem?_cons_succ, List.set_cons_zero, List.set_cons_succ, List.drop_succ_cons, List.drop_zero, List.take_succ_cons, List.take_zero, List.length_cons, List.length_nil, List.reverse_cons, List.reverse_nil, List.nil_append, List.cons_append, Option.toList_some, Option.toList_none, va_rf_s, true_and, and_true, true_implies, false_implies, not_true_eq_false, not_false_eq_true, Nat.reduceAdd, Nat.reduceLeDiff, Nat.le_add_left, Nat.zero_le, Nat.le_refl, znew, true_or, or_true, b01_t, b01_f, b01_ok, bool_ft, vp_b01, vp_b0, vp_b1, b01_eq0, b01_eq1, implies_true, nI_add, nI_clamp, zi_in, zi_le_t, zi_le_f, zi_lt_t, zi_lt_f, zi_eq_t, zi_eq_f, nI_leI, nI_ltI, nI_eq, z_in, pk_mul, zu_same, zu_rw, zu_ix, zi_ne0, zi_sub, zi_m1, Nat.add_sub_cancel, Nat.reduceMul, Nat.reduceSub]
    refine zC.of0 (zX10_expression hM hA hsd hc0 hC1 (by rw [hr29.f rfl]; exact h45) (by omega) (fun q' e => by cases e; exact ⟨by rw [hr29.f rfl]; exact h12, hcq⟩)) (by omega) (Nat.zero_le _) (Nat.zero_le _) ?_
    rintro _ _ ⟨rfl, S1, d, rfl, hx1, hC2, hd, hok⟩
    exact fin S1 d hx1.1 hx1.2 hC2 hd hok
/-- behind a fault: a law's loop -/
theorem tl_e12 {V : zV} {e : zFt} {m c0 : Nat} {x1 x2 x3 : Option Value} (hVl : V.1 = l) (hVE : V.2.1 = E) (hVd : V.2.2.1 = 5) (hM : isM h b) (hA : tkW A) (hsd : sd < 2) (hc0 : 420 * sd ≤ c0) (hC : mC b S L A (.error e)) (h45 : S b 45 = nI c0) (hc1 : c0 ≤ 420 * sd + 420) (h39 : S b 39 = nI m) (hm : m < 130 * sd + 130)
    (hQ : ∀ S', lwF b S S' m c0 sd → mC b S' L A (.error e) → V.2.2.2.2.2.1 none (z, h, S', L)) :
    zW V YX10_tellLaw 12 [some (.ref b), x1, x2, x3] [] (z, h, S, L) 0 0 := by
  obtain ⟨n, h13, hn, hn5⟩ := mC.bad (e := e) hC
  refine sX10_tellLaw_12 _ _ _ _ _ ?_
  simp (disch := omega) only [oAld, oAst1, oCV, oGI, oGR, oIf, oPush, hM.1, hM.r40, hM.t40, hM.n40, h13, h39, List.getElem?_cons_zero, List.getElem?_cons_succ, List.set_cons_zero, List.set_cons_succ, List.drop_succ_cons, List.drop_zero, List.take_succ_cons, List.take_zero, List.length_cons, List.length_nil, List.reverse_cons, List.reverse_nil, List.nil_append, List.cons_append, Option.toList_some, Option.toList_none, va_rf_s, true_and, and_true, true_implies, false_implies, not_true_eq_false, not_false_eq_true, Nat.reduceAdd, Nat.reduceLeDiff, Nat.le_add_left, Nat.zero_le, Nat.le_refl, znew, true_or, or_true, b01_t, b01_f, b01_ok, bool_ft, vp_b01, vp_b0, vp_b1, b01_eq0, b01_eq1, implies_true, nI_add, nI_clamp, zi_in, zi_le_t, zi_le_f, zi_lt_t, zi_lt_f, zi_eq_t, zi_eq_f, nI_leI, nI_ltI, nI_eq, z_in, pk_mul, zu_same, zu_rw, zu_ix, zi_ne0, zi_sub, zi_m1, Nat.add_sub_cancel, Nat.reduceMul, Nat.reduceSub]
  have hr : zfr [26] [] b S (zu S (b + 26) m (nI 0)) := zfr.rf.row (by decide) (by decide)
  have hC1 : mC b (zu S (b + 26) m (nI 0)) L A (.error e) := hC.row (by omega)
  have a1 : lwF b S (zu S (b + 26) m (nI 0)) m c0 sd := lwF.row (by decide) (Nat.le_refl _) hm
  refine zC.of0 (zX10_term hM hA hsd hc0 hC1 (by rw [hr.f rfl]; exact h45) hc1 (by rw [hr.f rfl]; exact h39) hm (fun q e => by cases e)) (by omega) (Nat.zero_le _) (Nat.zero_le _) ?_
  rintro _ _ ⟨rfl, S1, d, rfl, hl1, -, hC2, hd, -⟩
  refine sX10_tellLaw_143 _ _ _ _ _ ?_
  simp (disch := omega) only [oAld, oCV, oPush, hM.1, List.getElem?_cons_zero, List.getElem?_cons_succ, List.set_cons_zero, List.set_cons_succ, List.drop_succ_cons, List.drop_zero, List.take_succ_cons, List.take_zero, List.length_cons, List.length_nil, List.reverse_cons, List.reverse_nil, List.nil_append, List.cons_append, Option.toList_some, Option.toList_none, va_rf_s, true_and, and_true, true_implies, false_implies, not_true_eq_false, not_false_eq_true, Nat.reduceAdd, Nat.reduceLeDiff, Nat.le_add_left, Nat.zero_le, Nat.le_refl, znew, true_or, or_true, b01_t, b01_f, b01_ok, bool_ft, vp_b01, vp_b0, vp_b1, b01_eq0, b01_eq1, implies_true, nI_add, nI_clamp, zi_in, zi_le_t, zi_le_f, zi_lt_t, zi_lt_f, zi_eq_t, zi_eq_f, nI_leI, nI_ltI, nI_eq, z_in, pk_mul, zu_same, zu_rw, zu_ix, zi_ne0, zi_sub, zi_m1, Nat.add_sub_cancel, Nat.reduceMul, Nat.reduceSub]
  refine zC.of0 (zX10_must hM hA hC2 (by omega) (by omega)) (by omega) (Nat.zero_le _) (Nat.zero_le _) ?_
  rintro _ _ ⟨rfl, S2, rfl, hf2, hC3⟩
  obtain ⟨n2, h13', hn', hn5'⟩ := mC.bad (e := e) hC3
  refine sX10_tellLaw_148 _ _ _ _ _ ?_
  simp (disch := omega) only [oAld, oAst1, oBin, oGI, oGR, oIf, oIld, oPush, oRV, hM.1, hM.r37, hM.t37, hM.n37, hM.r38, hM.t38, hM.n38, h13', List.getElem?_cons_zero, List.getElem?_cons_succ, List.set_cons_zero, List.set_cons_succ, List.drop_succ_cons, List.drop_zero, List.take_succ_cons, List.take_zero, List.length_cons, List.length_nil, List.reverse_cons, List.reverse_nil, List.nil_append, List.cons_append, Option.toList_some, Option.toList_none, va_rf_s, true_and, and_true, true_implies, false_implies, not_true_eq_false, not_false_eq_true, Nat.reduceAdd, Nat.reduceLeDiff, Nat.le_add_left, Nat.zero_le, Nat.le_refl, znew, true_or, or_true, b01_t, b01_f, b01_ok, bool_ft, vp_b01, vp_b0, vp_b1, b01_eq0, b01_eq1, implies_true, nI_add, nI_clamp, zi_in, zi_le_t, zi_le_f, zi_lt_t, zi_lt_f, zi_eq_t, zi_eq_f, nI_leI, nI_ltI, nI_eq, z_in, pk_mul, zu_same, zu_rw, zu_ix, zi_ne0, zi_sub, zi_m1, Nat.add_sub_cancel, Nat.reduceMul, Nat.reduceSub]
  exact hQ S2 ((a1.tr hl1 (Nat.le_refl _) (Nat.le_refl _) (Nat.le_refl _) (Nat.le_refl _)).tr (lwF.fl hf2 rfl (m := m) (c := c0)) (Nat.le_refl _) (Nat.le_refl _) (Nat.le_refl _) (Nat.le_refl _)) hC3
end ND
