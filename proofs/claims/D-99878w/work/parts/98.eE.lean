/-! the component: cutting up, a token's text and number -/
/-- the sign of a kind -/
def sgI (k : Nat) : Nat := if k = 4 then 59 else if k = 5 then 61 else if k = 6 then 40 else if k = 7 then 41 else if k = 8 then 43 else if k = 9 then 45 else if k = 10 then 42 else if k = 15 then 47 else 60
def isSg (k : Nat) : Prop := 4 ≤ k ∧ k ≤ 15 ∧ k ≠ 11 ∧ k ≠ 12 ∧ k ≠ 14
theorem sg_all : ∀ u, u < 256 → sgK u = 3 ∨ ((4 ≤ sgK u ∧ sgK u ≤ 15 ∧ sgK u ≠ 11 ∧ sgK u ≠ 12 ∧ sgK u ≠ 14) ∧ sgI (sgK u) = u ∧ u ≠ 0 ∧ u < 128) := by decide +kernel
/-- a token as the component keeps it -/
def tkC (P : List Int32) (t : zTk) (so fr to wh : Int32) : Prop := (fr = nI t.2.1 ∧ t.2.1 ≤ 2000) ∧
  ((t.1 = 0 ∧ so = nI 4) ∨ (t.1 = 3 ∧ so = nI 5) ∨
   (t.1 = 1 ∧ so = nI 0 ∧ ∃ n, 1 ≤ n ∧ n ≤ 8 ∧ to = nI (t.2.1 + n) ∧ t.2.1 + n ≤ P.length ∧ t.2.2.2 = nmL P t.2.1 n ∧ ∀ j, j < n → isL (by8 P (t.2.1 + j)) = true) ∨
   (t.1 = 2 ∧ so = nI 1 ∧ ∃ n, n ≤ 4 ∧ to = nI (t.2.1 + n) ∧ t.2.1 + n ≤ P.length ∧ t.2.2.1 = dgV P t.2.1 n ∧ ∀ j, j < n → isD (by8 P (t.2.1 + j)) = true) ∨
   ((20 ≤ t.1 ∧ t.1 ≤ 42) ∧ so = nI 3 ∧ wh = nI (t.1 - 20)) ∨ (isSg t.1 ∧ so = nI 2 ∧ wh = nI (sgI t.1)))
def tkS (c : Nat) (S : Nat → Nat → Int32) (P : List Int32) (K : List zTk) : Prop := S (c + 2) 7 = nI K.length ∧ ∀ j, j < K.length → tkC P (K.getD j tk0) (S (c + 5) j) (S (c + 6) j) (S (c + 7) j) (S (c + 8) j)
/-- what cutting up changes -/
def tkF (c : Nat) (S S' : Nat → Nat → Int32) : Prop := (∀ a, a ≠ c + 2 → a ≠ c + 5 → a ≠ c + 6 → a ≠ c + 7 → a ≠ c + 8 → S' a = S a) ∧ ∀ j, j ≠ 7 → S' (c + 2) j = S (c + 2) j
theorem tkF.rf {c : Nat} {S : Nat → Nat → Int32} : tkF c S S := ⟨fun _ _ _ _ _ _ => rfl, fun _ _ => rfl⟩
theorem tkF.tr {c : Nat} {S S' S'' : Nat → Nat → Int32} (h : tkF c S S') (h' : tkF c S' S'') : tkF c S S'' := ⟨fun a h1 h2 h3 h4 h5 => (h'.1 a h1 h2 h3 h4 h5).trans (h.1 a h1 h2 h3 h4 h5), fun j hj => (h'.2 j hj).trans (h.2 j hj)⟩
theorem tkF.cP {c : Nat} {S S' : Nat → Nat → Int32} {P : List Int32} (h : tkF c S S') (hP : cP S c P) : cP S' c P := ⟨by rw [h.2 2 (by omega)]; exact hP.1, hP.2.1, fun i hi => by rw [h.1 _ (by omega) (by omega) (by omega) (by omega) (by omega)]; exact hP.2.2 i hi⟩
def tkAd (S : Nat → Nat → Int32) (c m s a b : Nat) (w : Int32) : Nat → Nat → Int32 := zu (zu (zu (zu (zu S (c + 5) m (nI s)) (c + 6) m (nI a)) (c + 7) m (nI b)) (c + 8) m w) (c + 2) 7 (nI (m + 1))
theorem tkAd_F {c m s a b : Nat} {w : Int32} {S : Nat → Nat → Int32} : tkF c S (tkAd S c m s a b w) := by
  refine ⟨fun a h1 h2 h3 h4 h5 => ?_, fun j hj => ?_⟩
  · unfold tkAd; rw [zu_rw _ _ h1, zu_rw _ _ h5, zu_rw _ _ h4, zu_rw _ _ h3, zu_rw _ _ h2]
  · unfold tkAd; rw [zu_ix _ _ hj, zu_rw _ _ (by omega), zu_rw _ _ (by omega), zu_rw _ _ (by omega), zu_rw _ _ (by omega)]
theorem tkAd_S {c s a b : Nat} {w : Int32} {S : Nat → Nat → Int32} {P : List Int32} {K : List zTk} {t : zTk} (hK : tkS c S P K) (ht : tkC P t (nI s) (nI a) (nI b) w) : tkS c (tkAd S c K.length s a b w) P (K ++ [t]) := by
  refine ⟨?_, fun j hj => ?_⟩
  · unfold tkAd; rw [zu_same, List.length_append]; rfl
  · have h5 : tkAd S c K.length s a b w (c + 5) j = if j = K.length then nI s else S (c + 5) j := by
      unfold tkAd; rw [zu_rw _ _ (by omega), zu_rw _ _ (by omega), zu_rw _ _ (by omega), zu_rw _ _ (by omega)]
      by_cases e : j = K.length
      · rw [if_pos e, e, zu_same]
      · rw [if_neg e, zu_ix _ _ e]
    have h6 : tkAd S c K.length s a b w (c + 6) j = if j = K.length then nI a else S (c + 6) j := by
      unfold tkAd; rw [zu_rw _ _ (by omega), zu_rw _ _ (by omega), zu_rw _ _ (by omega)]
      by_cases e : j = K.length
      · rw [if_pos e, e, zu_same]
      · rw [if_neg e, zu_ix _ _ e, zu_rw _ _ (by omega)]
    have h7 : tkAd S c K.length s a b w (c + 7) j = if j = K.length then nI b else S (c + 7) j := by
      unfold tkAd; rw [zu_rw _ _ (by omega), zu_rw _ _ (by omega)]
      by_cases e : j = K.length
      · rw [if_pos e, e, zu_same]
      · rw [if_neg e, zu_ix _ _ e, zu_rw _ _ (by omega), zu_rw _ _ (by omega)]
    have h8 : tkAd S c K.length s a b w (c + 8) j = if j = K.length then w else S (c + 8) j := by
      unfold tkAd; rw [zu_rw _ _ (by omega)]
      by_cases e : j = K.length
      · rw [if_pos e, e, zu_same]
      · rw [if_neg e, zu_ix _ _ e, zu_rw _ _ (by omega), zu_rw _ _ (by omega), zu_rw _ _ (by omega)]
    rw [h5, h6, h7, h8, getD_snoc]
    by_cases e : j = K.length
    · rw [if_pos e, if_pos e, if_pos e, if_pos e, if_pos e]; exact ht
    · rw [List.length_append, List.length_singleton] at hj
      rw [if_neg e, if_neg e, if_neg e, if_neg e, if_neg e, if_pos (by omega)]; exact hK.2 j (by omega)
/-- the tokens of a text, as far as the component cuts it up -/
def cTk (c : Nat) (S : Nat → Nat → Int32) (P : List Int32) : Prop := ∃ K R, tkA P = K ++ R ∧ 0 < K.length ∧ K.length ≤ 2001 ∧ tkS c S P K ∧ (∀ j, j + 1 < K.length → (K.getD j tk0).1 ≠ 0 ∧ (K.getD j tk0).1 ≠ 3) ∧ ((K.getD (K.length - 1) tk0).1 = 0 ∨ (K.getD (K.length - 1) tk0).1 = 3)
section EE
variable {l : Launch} {E : zE} {z : Nat} {h : Nat → Option zSh} {S : Nat → Nat → Int32} {L : Nat → Nat → Int64} {c : Nat} {P : List Int32} {adK adV : Nat → Nat} {oF : Option Nat}
theorem snoc_last {K : List zTk} {t : zTk} : (K ++ [t]).getD ((K ++ [t]).length - 1) tk0 = t := by
  rw [getD_snoc, List.length_append, List.length_singleton, Nat.add_sub_cancel, if_pos rfl]
theorem zX2_read (hB : isC h c) (hP : cP S c P) (hBy : isBy P) (hc : csZ E) (hs : siZ E oF) (hK : cKw E h c adK adV) : zM l E 5 YX2_read [.ref (c + 2)] (z, h, S, L) 0 0 (fun r X => r = none ∧ ∃ S', X = (z, h, S', L) ∧ tkF c S S' ∧ cTk c S' P) (fun _ _ => False) := by
  have hPl := hP.2.1
  refine zM.go rfl rfl (Nat.le_of_ble_eq_true rfl) (ls := [some (.ref (c + 2)), none, none, none, none, none, none]) rfl ?_
  intro V hVl hVE hVd hVc hVs hVQ hVX
  -- the end
  have fin : ∀ S' x1 x2 x3 x4 x5 x6, tkF c S S' → cTk c S' P → zW V YX2_read 227 [x1, x2, x3, x4, x5, x6, none] [] (z, h, S', L) 0 0 ∧ ∀ x7, zW V YX2_read 227 [x1, x2, x3, x4, x5, x6, x7] [] (z, h, S', L) 0 0 := by
    intro S' x1 x2 x3 x4 x5 x6 hF hT
    refine ⟨?_, fun x7 => ?_⟩
    · refine sX2_read_227 _ _ _ _ _ ?_
      simp (disch := omega) only [oRV, List.getElem?_cons_zero, List.getElem?_cons_succ, List.set_cons_zero, List.set_cons_succ, List.drop_succ_cons, List.drop_zero, List.take_succ_cons, List.take_zero, List.length_cons, List.length_nil, List.reverse_cons, List.reverse_nil, List.nil_append, List.cons_append, Option.toList_some, Option.toList_none, va_rf_s, true_and, and_true, true_implies, false_implies, not_true_eq_false, not_false_eq_true, Nat.reduceAdd, Nat.reduceLeDiff, Nat.le_add_left, Nat.zero_le, Nat.le_refl, znew, true_or, or_true, b01_t, b01_f, b01_ok, bool_ft, vp_b01, vp_b0, vp_b1, b01_eq0, b01_eq1, implies_true, nI_add, nI_clamp, zi_in, zi_le_t, zi_le_f, zi_lt_t, zi_lt_f, zi_eq_t, zi_eq_f, nI_leI, nI_ltI, nI_eq, z_in, pk_mul, zu_same, zu_rw, zu_ix, zi_ne0, zi_sub, zi_m1, Nat.add_sub_cancel, Nat.reduceMul, Nat.reduceSub]
      exact hVQ _ _ ⟨rfl, S', rfl, hF, hT⟩
    · refine sX2_read_227 _ _ _ _ _ ?_
      simp (disch := omega) only [oRV, List.getElem?_cons_zero, List.getElem?_cons_succ, List.set_cons_zero, List.set_cons_succ, List.drop_succ_cons, List.drop_zero, List.take_succ_cons, List.take_zero, List.length_cons, List.length_nil, List.reverse_cons, List.reverse_nil, List.nil_append, List.cons_append, Option.toList_some, Option.toList_none, va_rf_s, true_and, and_true, true_implies, false_implies, not_true_eq_false, not_false_eq_true, Nat.reduceAdd, Nat.reduceLeDiff, Nat.le_add_left, Nat.zero_le, Nat.le_refl, znew, true_or, or_true, b01_t, b01_f, b01_ok, bool_ft, vp_b01, vp_b0, vp_b1, b01_eq0, b01_eq1, implies_true, nI_add, nI_clamp, zi_in, zi_le_t, zi_le_f, zi_lt_t, zi_lt_f, zi_eq_t, zi_eq_f, nI_leI, nI_ltI, nI_eq, z_in, pk_mul, zu_same, zu_rw, zu_ix, zi_ne0, zi_sub, zi_m1, Nat.add_sub_cancel, Nat.reduceMul, Nat.reduceSub]
      exact hVQ _ _ ⟨rfl, S', rfl, hF, hT⟩
  -- a bad one
  have bad : ∀ S' i x3 x4 x5 x6, i ≤ P.length → tkF c S S' → cTk c S' P → zW V YX2_read 9 [some (.ref (c + 2)), some (.int (nI i)), some (.int (nI 0)), x3, x4, x5, x6] [] (z, h, S', L) 0 0 := by
    intro S' i x3 x4 x5 x6 hi hF hT
    have p1 := (hF.cP hP).1
    by_cases e : i = P.length
    · rw [e]
      refine sX2_read_9 _ _ _ _ _ ?_
      simp (disch := omega) only [oAld, oAld1, oBin, oCV, oGI, oGR, oIf, oIfc, oIld, oInc, oIst, oNop, oPush, hB.tk, hB.tr1, hB.tt1, hB.tn1, p1, List.getElem?_cons_zero, List.getElem?_cons_succ, List.set_cons_zero, List.set_cons_succ, List.drop_succ_cons, List.drop_zero, List.take_succ_cons, List.take_zero, List.length_cons, List.length_nil, List.reverse_cons, List.reverse_nil, List.nil_append, List.cons_append, Option.toList_some, Option.toList_none, va_rf_s, true_and, and_true, true_implies, false_implies, not_true_eq_false, not_false_eq_true, Nat.reduceAdd, Nat.reduceLeDiff, Nat.le_add_left, Nat.zero_le, Nat.le_refl, znew, true_or, or_true, b01_t, b01_f, b01_ok, bool_ft, vp_b01, vp_b0, vp_b1, b01_eq0, b01_eq1, implies_true, nI_add, nI_clamp, zi_in, zi_le_t, zi_le_f, zi_lt_t, zi_lt_f, zi_eq_t, zi_eq_f, nI_leI, nI_ltI, nI_eq, z_in, pk_mul, zu_same, zu_rw, zu_ix, zi_ne0, zi_sub, zi_m1, Nat.add_sub_cancel, Nat.reduceMul, Nat.reduceSub]
      exact (fin S' _ _ _ _ _ _ hF hT).2 _
    · refine sX2_read_9 _ _ _ _ _ ?_
      simp (disch := omega) only [oAld, oAld1, oBin, oCV, oGI, oGR, oIf, oIfc, oIld, oInc, oIst, oNop, oPush, hB.tk, hB.tr1, hB.tt1, hB.tn1, p1, List.getElem?_cons_zero, List.getElem?_cons_succ, List.set_cons_zero, List.set_cons_succ, List.drop_succ_cons, List.drop_zero, List.take_succ_cons, List.take_zero, List.length_cons, List.length_nil, List.reverse_cons, List.reverse_nil, List.nil_append, List.cons_append, Option.toList_some, Option.toList_none, va_rf_s, true_and, and_true, true_implies, false_implies, not_true_eq_false, not_false_eq_true, Nat.reduceAdd, Nat.reduceLeDiff, Nat.le_add_left, Nat.zero_le, Nat.le_refl, znew, true_or, or_true, b01_t, b01_f, b01_ok, bool_ft, vp_b01, vp_b0, vp_b1, b01_eq0, b01_eq1, implies_true, nI_add, nI_clamp, zi_in, zi_le_t, zi_le_f, zi_lt_t, zi_lt_f, zi_eq_t, zi_eq_f, nI_leI, nI_ltI, nI_eq, z_in, pk_mul, zu_same, zu_rw, zu_ix, zi_ne0, zi_sub, zi_m1, Nat.add_sub_cancel, Nat.reduceMul, Nat.reduceSub]
      exact (fin S' _ _ _ _ _ _ hF hT).2 _
  have loop : ∀ f i K S' x3 x4 x5 x6, P.length < f + i → i ≤ P.length → tkA P = K ++ tks P f i → K.length ≤ i → tkS c S' P K → (∀ j, j < K.length → (K.getD j tk0).1 ≠ 0 ∧ (K.getD j tk0).1 ≠ 3) → tkF c S S' → zW V YX2_read 9 [some (.ref (c + 2)), some (.int (nI i)), some (.int (nI 1)), x3, x4, x5, x6] [] (z, h, S', L) 0 0 := by
    intro f
    induction f with
    | zero => intro i K S' x3 x4 x5 x6 h1 h2; omega
    | succ f ih =>
      intro i K S' x3 x4 x5 x6 h1 h2 hA hKi hT hk hF
      have hP' := hF.cP hP
      obtain ⟨p1, p2, p3⟩ := id hP'
      have hk' : ∀ t, ∀ j, j + 1 < (K ++ [t]).length → ((K ++ [t]).getD j tk0).1 ≠ 0 ∧ ((K ++ [t]).getD j tk0).1 ≠ 3 := fun t j hj => by
        rw [List.length_append, List.length_singleton] at hj
        rw [getD_snoc, if_neg (by omega), if_pos (by omega)]; exact hk j (by omega)
      by_cases hend : P.length ≤ i
      · obtain rfl : i = P.length := by omega
        rw [tks, if_pos hend] at hA
        have hC : tkC P (0, P.length, 0, []) (nI 4) (nI P.length) (nI P.length) (nI 0) := ⟨⟨rfl, hPl⟩, Or.inl ⟨rfl, rfl⟩⟩
        refine sX2_read_9 _ _ _ _ _ ?_
        simp (disch := omega) only [oAld, oAld1, oBin, oCV, oGI, oGR, oIf, oIfc, oIld, oInc, oIst, oNop, oPush, hB.tk, hB.tr1, hB.tt1, hB.tn1, p1, List.getElem?_cons_zero, List.getElem?_cons_succ, List.set_cons_zero, List.set_cons_succ, List.drop_succ_cons, List.drop_zero, List.take_succ_cons, List.take_zero, List.length_cons, List.length_nil, List.reverse_cons, List.reverse_nil, List.nil_append, List.cons_append, Option.toList_some, Option.toList_none, va_rf_s, true_and, and_true, true_implies, false_implies, not_true_eq_false, not_false_eq_true, Nat.reduceAdd, Nat.reduceLeDiff, Nat.le_add_left, Nat.zero_le, Nat.le_refl, znew, true_or, or_true, b01_t, b01_f, b01_ok, bool_ft, vp_b01, vp_b0, vp_b1, b01_eq0, b01_eq1, implies_true, nI_add, nI_clamp, zi_in, zi_le_t, zi_le_f, zi_lt_t, zi_lt_f, zi_eq_t, zi_eq_f, nI_leI, nI_ltI, nI_eq, z_in, pk_mul, zu_same, zu_rw, zu_ix, zi_ne0, zi_sub, zi_m1, Nat.add_sub_cancel, Nat.reduceMul, Nat.reduceSub]
        refine zC.of0 (zX2_add hB (s := 4) (a := P.length) (b := P.length) (w := nI 0) hT.1 (by omega) (by omega) (by omega) (by omega) (i_s2 (by omega))) (by omega) (Nat.zero_le _) (Nat.zero_le _) ?_
        rintro _ _ ⟨rfl, rfl⟩
        refine (fin (tkAd S' c K.length 4 P.length P.length (nI 0)) _ _ _ _ _ _ (hF.tr tkAd_F) ⟨K ++ [(0, P.length, 0, [])], [], by rw [List.append_nil]; exact hA, by simp, by simp; omega, tkAd_S hT hC, hk' _, by rw [snoc_last]; exact Or.inl rfl⟩).2 _
      · rw [tks, if_neg hend] at hA
        have hi : i < P.length := by omega
        have eT := p3 i hi
        have hct : (P.getD i 0 = nI (by8 P i) ∧ by8 P i < 128) ∨ (P.getD i 0 < nI 0 ∧ 128 ≤ by8 P i) := by
          have := ctK hBy i
          unfold ctB at this; rw [if_pos hi] at this; exact this
        by_cases hsp : isSp (by8 P i) = true
        · rw [if_pos hsp] at hA
          have hsp' := of_decide_eq_true hsp
          have ih' := fun x3 x4 => ih (i + 1) K S' x3 x4 x5 x6 (by omega) (by omega) hA (by omega) hT hk hF
          rcases hct with ⟨q, -⟩ | ⟨-, q⟩
          · rcases hsp' with u | u | u | u
            · rw [u] at q; rw [q] at eT
              refine sX2_read_9 _ _ _ _ _ ?_
              simp (disch := omega) only [oAld, oAld1, oBin, oCV, oGI, oGR, oIf, oIfc, oIld, oInc, oIst, oNop, oPush, hB.tk, hB.tr1, hB.tt1, hB.tn1, p1, eT, List.getElem?_cons_zero, List.getElem?_cons_succ, List.set_cons_zero, List.set_cons_succ, List.drop_succ_cons, List.drop_zero, List.take_succ_cons, List.take_zero, List.length_cons, List.length_nil, List.reverse_cons, List.reverse_nil, List.nil_append, List.cons_append, Option.toList_some, Option.toList_none, va_rf_s, true_and, and_true, true_implies, false_implies, not_true_eq_false, not_false_eq_true, Nat.reduceAdd, Nat.reduceLeDiff, Nat.le_add_left, Nat.zero_le, Nat.le_refl, znew, true_or, or_true, b01_t, b01_f, b01_ok, bool_ft, vp_b01, vp_b0, vp_b1, b01_eq0, b01_eq1, implies_true, nI_add, nI_clamp, zi_in, zi_le_t, zi_le_f, zi_lt_t, zi_lt_f, zi_eq_t, zi_eq_f, nI_leI, nI_ltI, nI_eq, z_in, pk_mul, zu_same, zu_rw, zu_ix, zi_ne0, zi_sub, zi_m1, Nat.add_sub_cancel, Nat.reduceMul, Nat.reduceSub]
              exact ih' _ _
            · rw [u] at q; rw [q] at eT
              refine sX2_read_9 _ _ _ _ _ ?_
              simp (disch := omega) only [oAld, oAld1, oBin, oCV, oGI, oGR, oIf, oIfc, oIld, oInc, oIst, oNop, oPush, hB.tk, hB.tr1, hB.tt1, hB.tn1, p1, eT, List.getElem?_cons_zero, List.getElem?_cons_succ, List.set_cons_zero, List.set_cons_succ, List.drop_succ_cons, List.drop_zero, List.take_succ_cons, List.take_zero, List.length_cons, List.length_nil, List.reverse_cons, List.reverse_nil, List.nil_append, List.cons_append, Option.toList_some, Option.toList_none, va_rf_s, true_and, and_true, true_implies, false_implies, not_true_eq_false, not_false_eq_true, Nat.reduceAdd, Nat.reduceLeDiff, Nat.le_add_left, Nat.zero_le, Nat.le_refl, znew, true_or, or_true, b01_t, b01_f, b01_ok, bool_ft, vp_b01, vp_b0, vp_b1, b01_eq0, b01_eq1, implies_true, nI_add, nI_clamp, zi_in, zi_le_t, zi_le_f, zi_lt_t, zi_lt_f, zi_eq_t, zi_eq_f, nI_leI, nI_ltI, nI_eq, z_in, pk_mul, zu_same, zu_rw, zu_ix, zi_ne0, zi_sub, zi_m1, Nat.add_sub_cancel, Nat.reduceMul, Nat.reduceSub]
              exact ih' _ _
            · rw [u] at q; rw [q] at eT
              refine sX2_read_9 _ _ _ _ _ ?_
              simp (disch := omega) only [oAld, oAld1, oBin, oCV, oGI, oGR, oIf, oIfc, oIld, oInc, oIst, oNop, oPush, hB.tk, hB.tr1, hB.tt1, hB.tn1, p1, eT, List.getElem?_cons_zero, List.getElem?_cons_succ, List.set_cons_zero, List.set_cons_succ, List.drop_succ_cons, List.drop_zero, List.take_succ_cons, List.take_zero, List.length_cons, List.length_nil, List.reverse_cons, List.reverse_nil, List.nil_append, List.cons_append, Option.toList_some, Option.toList_none, va_rf_s, true_and, and_true, true_implies, false_implies, not_true_eq_false, not_false_eq_true, Nat.reduceAdd, Nat.reduceLeDiff, Nat.le_add_left, Nat.zero_le, Nat.le_refl, znew, true_or, or_true, b01_t, b01_f, b01_ok, bool_ft, vp_b01, vp_b0, vp_b1, b01_eq0, b01_eq1, implies_true, nI_add, nI_clamp, zi_in, zi_le_t, zi_le_f, zi_lt_t, zi_lt_f, zi_eq_t, zi_eq_f, nI_leI, nI_ltI, nI_eq, z_in, pk_mul, zu_same, zu_rw, zu_ix, zi_ne0, zi_sub, zi_m1, Nat.add_sub_cancel, Nat.reduceMul, Nat.reduceSub]
              exact ih' _ _
            · rw [u] at q; rw [q] at eT
              refine sX2_read_9 _ _ _ _ _ ?_
              simp (disch := omega) only [oAld, oAld1, oBin, oCV, oGI, oGR, oIf, oIfc, oIld, oInc, oIst, oNop, oPush, hB.tk, hB.tr1, hB.tt1, hB.tn1, p1, eT, List.getElem?_cons_zero, List.getElem?_cons_succ, List.set_cons_zero, List.set_cons_succ, List.drop_succ_cons, List.drop_zero, List.take_succ_cons, List.take_zero, List.length_cons, List.length_nil, List.reverse_cons, List.reverse_nil, List.nil_append, List.cons_append, Option.toList_some, Option.toList_none, va_rf_s, true_and, and_true, true_implies, false_implies, not_true_eq_false, not_false_eq_true, Nat.reduceAdd, Nat.reduceLeDiff, Nat.le_add_left, Nat.zero_le, Nat.le_refl, znew, true_or, or_true, b01_t, b01_f, b01_ok, bool_ft, vp_b01, vp_b0, vp_b1, b01_eq0, b01_eq1, implies_true, nI_add, nI_clamp, zi_in, zi_le_t, zi_le_f, zi_lt_t, zi_lt_f, zi_eq_t, zi_eq_f, nI_leI, nI_ltI, nI_eq, z_in, pk_mul, zu_same, zu_rw, zu_ix, zi_ne0, zi_sub, zi_m1, Nat.add_sub_cancel, Nat.reduceMul, Nat.reduceSub]
              exact ih' _ _
          · omega
        · rw [if_neg hsp] at hA
          have hns : ∀ u, u < 128 → isSp u = true → (P.getD i 0 = nI u) = False := fun u hu hs => eq_false (fun e => by
            rcases hct with ⟨q, q2⟩ | ⟨q, -⟩
            · rw [q, nI_eq (by omega) (by omega)] at e
              rw [e] at hsp; exact hsp hs
            · exact i_neq q (by omega) e)
          have n32 := hns 32 (by omega) (by decide)
          have n9 := hns 9 (by omega) (by decide)
          have n10 := hns 10 (by omega) (by decide)
          have n13 := hns 13 (by omega) (by decide)
          generalize P.getD i 0 = xc at eT n32 n9 n10 n13
          -- behind a token
          have next : ∀ (t : zTk) (s e : Nat) (w : Int32) (S1 : Nat → Nat → Int32), tkO P i = (t, e) → i < e → e ≤ P.length → s ≤ 5 → tkC P t (nI s) (nI i) (nI e) w → (s = 5 ↔ t.1 = 3) → t.1 ≠ 0 → S1 = tkAd S' c K.length s i e w → zW V YX2_read 197 [some (.ref (c + 2)), some (.int (nI i)), some (.int (nI 1)), some (.int xc), some (.int (nI e)), some (.int (nI s)), some (.int w)] [] (z, h, S1, L) 0 0 := by
            intro t s e w S1 hO he1 he2 hs5 hC hbd h0 hS1
            rw [hO] at hA
            subst hS1
            have hT' := tkAd_S hT hC
            by_cases hb : s = 5
            · subst hb
              refine sX2_read_197 _ _ _ _ _ ?_
              simp (disch := omega) only [oIfc, oIld, oIst, oNop, oPush, List.getElem?_cons_zero, List.getElem?_cons_succ, List.set_cons_zero, List.set_cons_succ, List.drop_succ_cons, List.drop_zero, List.take_succ_cons, List.take_zero, List.length_cons, List.length_nil, List.reverse_cons, List.reverse_nil, List.nil_append, List.cons_append, Option.toList_some, Option.toList_none, va_rf_s, true_and, and_true, true_implies, false_implies, not_true_eq_false, not_false_eq_true, Nat.reduceAdd, Nat.reduceLeDiff, Nat.le_add_left, Nat.zero_le, Nat.le_refl, znew, true_or, or_true, b01_t, b01_f, b01_ok, bool_ft, vp_b01, vp_b0, vp_b1, b01_eq0, b01_eq1, implies_true, nI_add, nI_clamp, zi_in, zi_le_t, zi_le_f, zi_lt_t, zi_lt_f, zi_eq_t, zi_eq_f, nI_leI, nI_ltI, nI_eq, z_in, pk_mul, zu_same, zu_rw, zu_ix, zi_ne0, zi_sub, zi_m1, Nat.add_sub_cancel, Nat.reduceMul, Nat.reduceSub]
              exact bad _ e _ _ _ _ he2 (hF.tr tkAd_F) ⟨K ++ [t], tks P f e, by rw [hA, List.append_assoc]; rfl, by simp, by simp; omega, hT', hk' t, by rw [snoc_last]; exact Or.inr (hbd.mp rfl)⟩
            · refine sX2_read_197 _ _ _ _ _ ?_
              simp (disch := omega) only [oIfc, oIld, oIst, oNop, oPush, List.getElem?_cons_zero, List.getElem?_cons_succ, List.set_cons_zero, List.set_cons_succ, List.drop_succ_cons, List.drop_zero, List.take_succ_cons, List.take_zero, List.length_cons, List.length_nil, List.reverse_cons, List.reverse_nil, List.nil_append, List.cons_append, Option.toList_some, Option.toList_none, va_rf_s, true_and, and_true, true_implies, false_implies, not_true_eq_false, not_false_eq_true, Nat.reduceAdd, Nat.reduceLeDiff, Nat.le_add_left, Nat.zero_le, Nat.le_refl, znew, true_or, or_true, b01_t, b01_f, b01_ok, bool_ft, vp_b01, vp_b0, vp_b1, b01_eq0, b01_eq1, implies_true, nI_add, nI_clamp, zi_in, zi_le_t, zi_le_f, zi_lt_t, zi_lt_f, zi_eq_t, zi_eq_f, nI_leI, nI_ltI, nI_eq, z_in, pk_mul, zu_same, zu_rw, zu_ix, zi_ne0, zi_sub, zi_m1, Nat.add_sub_cancel, Nat.reduceMul, Nat.reduceSub]
              refine ih e (K ++ [t]) _ _ _ _ _ (by omega) he2 (by rw [hA, List.append_assoc]; rfl) (by rw [List.length_append, List.length_singleton]; omega) hT' (fun j hj => ?_) (hF.tr tkAd_F)
              rw [List.length_append, List.length_singleton] at hj
              rw [getD_snoc]
              by_cases e1 : j = K.length
              · rw [if_pos e1]; exact ⟨h0, fun q => hb (hbd.mpr q)⟩
              · rw [if_neg e1, if_pos (by omega)]; exact hk j (by omega)
          refine sX2_read_9 _ _ _ _ _ ?_
          simp (disch := omega) only [oAld, oAld1, oBin, oCV, oGI, oGR, oIf, oIfc, oIld, oInc, oIst, oNop, oPush, hB.tk, hB.tr1, hB.tt1, hB.tn1, p1, eT, n32, n9, n10, n13, List.getElem?_cons_zero, List.getElem?_cons_succ, List.set_cons_zero, List.set_cons_succ, List.drop_succ_cons, List.drop_zero, List.take_succ_cons, List.take_zero, List.length_cons, List.length_nil, List.reverse_cons, List.reverse_nil, List.nil_append, List.cons_append, Option.toList_some, Option.toList_none, va_rf_s, true_and, and_true, true_implies, false_implies, not_true_eq_false, not_false_eq_true, Nat.reduceAdd, Nat.reduceLeDiff, Nat.le_add_left, Nat.zero_le, Nat.le_refl, znew, true_or, or_true, b01_t, b01_f, b01_ok, bool_ft, vp_b01, vp_b0, vp_b1, b01_eq0, b01_eq1, implies_true, nI_add, nI_clamp, zi_in, zi_le_t, zi_le_f, zi_lt_t, zi_lt_f, zi_eq_t, zi_eq_f, nI_leI, nI_ltI, nI_eq, z_in, pk_mul, zu_same, zu_rw, zu_ix, zi_ne0, zi_sub, zi_m1, Nat.add_sub_cancel, Nat.reduceMul, Nat.reduceSub]
          refine zC.of0 (zX2_isLetter hB hP' hBy (by omega)) (by omega) (Nat.zero_le _) (Nat.zero_le _) ?_
          rintro _ _ ⟨rfl, rfl⟩
          cases hL : isL (by8 P i) with
          | true =>
            have hn := runL_pos hi hL
            have hle := runL_le P i
            have hin : ∀ j, j < runL P i → isL (by8 P (i + j)) = true := fun j hj => run_in (p := fun j => isL (by8 P j)) hj
            have hO : tkO P i = ((if 8 < runL P i then 3 else kwM (nmL P i (runL P i)) 23, i, 0, nmL P i (min (runL P i) 8)), i + runL P i) := by rw [tkO, if_pos hL]
            have hend' := runL_end P i
            generalize runL P i = n at hn hle hin hO hend'
            have run : ∀ j, j ≤ n → 1 ≤ j → zW V YX2_read 74 [some (.ref (c + 2)), some (.int (nI i)), some (.int (nI 1)), some (.int xc), some (.int (nI (i + j))), x5, some (.int (nI 0))] [] (z, h, S', L) 0 0 := by
              refine z_down ?_ (fun j hj ihj => ?_)
              · intro _
                refine sX2_read_74 _ _ _ _ _ ?_
                simp (disch := omega) only [oAld, oCV, oIld, hB.tk, List.getElem?_cons_zero, List.getElem?_cons_succ, List.set_cons_zero, List.set_cons_succ, List.drop_succ_cons, List.drop_zero, List.take_succ_cons, List.take_zero, List.length_cons, List.length_nil, List.reverse_cons, List.reverse_nil, List.nil_append, List.cons_append, Option.toList_some, Option.toList_none, va_rf_s, true_and, and_true, true_implies, false_implies, not_true_eq_false, not_false_eq_true, Nat.reduceAdd, Nat.reduceLeDiff, Nat.le_add_left, Nat.zero_le, Nat.le_refl, znew, true_or, or_true, b01_t, b01_f, b01_ok, bool_ft, vp_b01, vp_b0, vp_b1, b01_eq0, b01_eq1, implies_true, nI_add, nI_clamp, zi_in, zi_le_t, zi_le_f, zi_lt_t, zi_lt_f, zi_eq_t, zi_eq_f, nI_leI, nI_ltI, nI_eq, z_in, pk_mul, zu_same, zu_rw, zu_ix, zi_ne0, zi_sub, zi_m1, Nat.add_sub_cancel, Nat.reduceMul, Nat.reduceSub]
                refine zC.of0 (zX2_isLetter hB hP' hBy (by omega)) (by omega) (Nat.zero_le _) (Nat.zero_le _) ?_
                rintro _ _ ⟨rfl, rfl⟩
                rw [hend']
                refine sX2_read_80 _ _ _ _ _ ?_
                simp (disch := omega) only [oAld, oCV, oIf, oIld, oInc, oNop, hB.tk, List.getElem?_cons_zero, List.getElem?_cons_succ, List.set_cons_zero, List.set_cons_succ, List.drop_succ_cons, List.drop_zero, List.take_succ_cons, List.take_zero, List.length_cons, List.length_nil, List.reverse_cons, List.reverse_nil, List.nil_append, List.cons_append, Option.toList_some, Option.toList_none, va_rf_s, true_and, and_true, true_implies, false_implies, not_true_eq_false, not_false_eq_true, Nat.reduceAdd, Nat.reduceLeDiff, Nat.le_add_left, Nat.zero_le, Nat.le_refl, znew, true_or, or_true, b01_t, b01_f, b01_ok, bool_ft, vp_b01, vp_b0, vp_b1, b01_eq0, b01_eq1, implies_true, nI_add, nI_clamp, zi_in, zi_le_t, zi_le_f, zi_lt_t, zi_lt_f, zi_eq_t, zi_eq_f, nI_leI, nI_ltI, nI_eq, z_in, pk_mul, zu_same, zu_rw, zu_ix, zi_ne0, zi_sub, zi_m1, Nat.add_sub_cancel, Nat.reduceMul, Nat.reduceSub]
                refine zC.of0 (zX2_word hB hP' hBy (by rw [hVE]; exact hc) (by rw [hVE]; exact hs) (by rw [hVE]; exact hK) hn (by omega) hin) (by omega) (Nat.zero_le _) (Nat.zero_le _) ?_
                rintro _ _ ⟨rfl, rfl⟩
                have esub : i + n - i = n := by omega
                have hM := kwM_F (w := nmL P i n) 23 (by omega)
                cases hf : firstF (kwP (nmL P i n)) 23 with
                | some k =>
                  rw [hf] at hM
                  have hM : kwM (nmL P i n) 23 = 20 + k := hM
                  have hk2 := firstF_lt hf
                  have hkl := kw_len k hk2.1
                  have hn7 : n ≤ 7 := by rw [of_decide_eq_true hk2.2, nmL_len] at hkl; exact hkl
                  rw [if_neg (by omega), hM] at hO
                  rw [oM_s]
                  refine sX2_read_96 _ _ _ _ _ ?_
                  simp (disch := omega) only [oAld, oBin, oCV, oIf, oIfc, oIld, oIst, oNop, oPush, hB.tk, esub, List.getElem?_cons_zero, List.getElem?_cons_succ, List.set_cons_zero, List.set_cons_succ, List.drop_succ_cons, List.drop_zero, List.take_succ_cons, List.take_zero, List.length_cons, List.length_nil, List.reverse_cons, List.reverse_nil, List.nil_append, List.cons_append, Option.toList_some, Option.toList_none, va_rf_s, true_and, and_true, true_implies, false_implies, not_true_eq_false, not_false_eq_true, Nat.reduceAdd, Nat.reduceLeDiff, Nat.le_add_left, Nat.zero_le, Nat.le_refl, znew, true_or, or_true, b01_t, b01_f, b01_ok, bool_ft, vp_b01, vp_b0, vp_b1, b01_eq0, b01_eq1, implies_true, nI_add, nI_clamp, zi_in, zi_le_t, zi_le_f, zi_lt_t, zi_lt_f, zi_eq_t, zi_eq_f, nI_leI, nI_ltI, nI_eq, z_in, pk_mul, zu_same, zu_rw, zu_ix, zi_ne0, zi_sub, zi_m1, Nat.add_sub_cancel, Nat.reduceMul, Nat.reduceSub]
                  refine zC.of0 (zX2_add hB (s := 3) (a := i) (b := i + n) (w := nI k) hT.1 (by omega) (by omega) (by omega) (by omega) (i_s2 (by omega))) (by omega) (Nat.zero_le _) (Nat.zero_le _) ?_
                  rintro _ _ ⟨rfl, rfl⟩
                  exact next _ 3 _ _ _ hO (by omega) (by omega) (by omega) ⟨⟨rfl, by show i ≤ 2000; omega⟩, Or.inr (Or.inr (Or.inr (Or.inr (Or.inl ⟨⟨by show 20 ≤ 20 + k; omega, by show 20 + k ≤ 42; omega⟩, rfl, by show nI k = nI (20 + k - 20); congr 1; omega⟩))))⟩ ⟨fun q => absurd q (by omega), fun q => absurd q (by show ¬ 20 + k = 3; omega)⟩ (by show 20 + k ≠ 0; omega) rfl
                | none =>
                  rw [hf] at hM
                  have hM : kwM (nmL P i n) 23 = 1 := hM
                  have m1 : ((-1 : Int32) < nI 0) = True := eq_true (by decide)
                  rw [oM_n]
                  by_cases h8 : 8 < n
                  · rw [if_pos h8] at hO
                    refine sX2_read_96 _ _ _ _ _ ?_
                    simp (disch := omega) only [oAld, oBin, oCV, oIf, oIfc, oIld, oIst, oNop, oPush, hB.tk, esub, m1, List.getElem?_cons_zero, List.getElem?_cons_succ, List.set_cons_zero, List.set_cons_succ, List.drop_succ_cons, List.drop_zero, List.take_succ_cons, List.take_zero, List.length_cons, List.length_nil, List.reverse_cons, List.reverse_nil, List.nil_append, List.cons_append, Option.toList_some, Option.toList_none, va_rf_s, true_and, and_true, true_implies, false_implies, not_true_eq_false, not_false_eq_true, Nat.reduceAdd, Nat.reduceLeDiff, Nat.le_add_left, Nat.zero_le, Nat.le_refl, znew, true_or, or_true, b01_t, b01_f, b01_ok, bool_ft, vp_b01, vp_b0, vp_b1, b01_eq0, b01_eq1, implies_true, nI_add, nI_clamp, zi_in, zi_le_t, zi_le_f, zi_lt_t, zi_lt_f, zi_eq_t, zi_eq_f, nI_leI, nI_ltI, nI_eq, z_in, pk_mul, zu_same, zu_rw, zu_ix, zi_ne0, zi_sub, zi_m1, Nat.add_sub_cancel, Nat.reduceMul, Nat.reduceSub]
                    refine zC.of0 (zX2_add hB (s := 5) (a := i) (b := i + n) (w := -1) hT.1 (by omega) (by omega) (by omega) (by omega) (by decide)) (by omega) (Nat.zero_le _) (Nat.zero_le _) ?_
                    rintro _ _ ⟨rfl, rfl⟩
                    exact next _ 5 _ _ _ hO (by omega) (by omega) (by omega) ⟨⟨rfl, by show i ≤ 2000; omega⟩, Or.inr (Or.inl ⟨rfl, rfl⟩)⟩ ⟨fun _ => rfl, fun _ => rfl⟩ (by show 3 ≠ 0; omega) rfl
                  · rw [if_neg h8, hM, Nat.min_eq_left (by omega)] at hO
                    refine sX2_read_96 _ _ _ _ _ ?_
                    simp (disch := omega) only [oAld, oBin, oCV, oIf, oIfc, oIld, oIst, oNop, oPush, hB.tk, esub, m1, List.getElem?_cons_zero, List.getElem?_cons_succ, List.set_cons_zero, List.set_cons_succ, List.drop_succ_cons, List.drop_zero, List.take_succ_cons, List.take_zero, List.length_cons, List.length_nil, List.reverse_cons, List.reverse_nil, List.nil_append, List.cons_append, Option.toList_some, Option.toList_none, va_rf_s, true_and, and_true, true_implies, false_implies, not_true_eq_false, not_false_eq_true, Nat.reduceAdd, Nat.reduceLeDiff, Nat.le_add_left, Nat.zero_le, Nat.le_refl, znew, true_or, or_true, b01_t, b01_f, b01_ok, bool_ft, vp_b01, vp_b0, vp_b1, b01_eq0, b01_eq1, implies_true, nI_add, nI_clamp, zi_in, zi_le_t, zi_le_f, zi_lt_t, zi_lt_f, zi_eq_t, zi_eq_f, nI_leI, nI_ltI, nI_eq, z_in, pk_mul, zu_same, zu_rw, zu_ix, zi_ne0, zi_sub, zi_m1, Nat.add_sub_cancel, Nat.reduceMul, Nat.reduceSub]
                    refine zC.of0 (zX2_add hB (s := 0) (a := i) (b := i + n) (w := -1) hT.1 (by omega) (by omega) (by omega) (by omega) (by decide)) (by omega) (Nat.zero_le _) (Nat.zero_le _) ?_
                    rintro _ _ ⟨rfl, rfl⟩
                    exact next _ 0 _ _ _ hO (by omega) (by omega) (by omega) ⟨⟨rfl, by show i ≤ 2000; omega⟩, Or.inr (Or.inr (Or.inl ⟨rfl, rfl, n, hn, by omega, rfl, by show i + n ≤ _; omega, rfl, hin⟩))⟩ ⟨fun q => absurd q (by omega), fun q => absurd q (by show ¬ 1 = 3; omega)⟩ (by show 1 ≠ 0; omega) rfl
              · intro hj1
                refine sX2_read_74 _ _ _ _ _ ?_
                simp (disch := omega) only [oAld, oCV, oIld, hB.tk, List.getElem?_cons_zero, List.getElem?_cons_succ, List.set_cons_zero, List.set_cons_succ, List.drop_succ_cons, List.drop_zero, List.take_succ_cons, List.take_zero, List.length_cons, List.length_nil, List.reverse_cons, List.reverse_nil, List.nil_append, List.cons_append, Option.toList_some, Option.toList_none, va_rf_s, true_and, and_true, true_implies, false_implies, not_true_eq_false, not_false_eq_true, Nat.reduceAdd, Nat.reduceLeDiff, Nat.le_add_left, Nat.zero_le, Nat.le_refl, znew, true_or, or_true, b01_t, b01_f, b01_ok, bool_ft, vp_b01, vp_b0, vp_b1, b01_eq0, b01_eq1, implies_true, nI_add, nI_clamp, zi_in, zi_le_t, zi_le_f, zi_lt_t, zi_lt_f, zi_eq_t, zi_eq_f, nI_leI, nI_ltI, nI_eq, z_in, pk_mul, zu_same, zu_rw, zu_ix, zi_ne0, zi_sub, zi_m1, Nat.add_sub_cancel, Nat.reduceMul, Nat.reduceSub]
                refine zC.of0 (zX2_isLetter hB hP' hBy (by omega)) (by omega) (Nat.zero_le _) (Nat.zero_le _) ?_
                rintro _ _ ⟨rfl, rfl⟩
                rw [hin j hj]
                refine sX2_read_80 _ _ _ _ _ ?_
                simp (disch := omega) only [oAld, oCV, oIf, oIld, oInc, oNop, hB.tk, List.getElem?_cons_zero, List.getElem?_cons_succ, List.set_cons_zero, List.set_cons_succ, List.drop_succ_cons, List.drop_zero, List.take_succ_cons, List.take_zero, List.length_cons, List.length_nil, List.reverse_cons, List.reverse_nil, List.nil_append, List.cons_append, Option.toList_some, Option.toList_none, va_rf_s, true_and, and_true, true_implies, false_implies, not_true_eq_false, not_false_eq_true, Nat.reduceAdd, Nat.reduceLeDiff, Nat.le_add_left, Nat.zero_le, Nat.le_refl, znew, true_or, or_true, b01_t, b01_f, b01_ok, bool_ft, vp_b01, vp_b0, vp_b1, b01_eq0, b01_eq1, implies_true, nI_add, nI_clamp, zi_in, zi_le_t, zi_le_f, zi_lt_t, zi_lt_f, zi_eq_t, zi_eq_f, nI_leI, nI_ltI, nI_eq, z_in, pk_mul, zu_same, zu_rw, zu_ix, zi_ne0, zi_sub, zi_m1, Nat.add_sub_cancel, Nat.reduceMul, Nat.reduceSub]
                exact ihj (by omega)
            refine sX2_read_71 _ _ _ _ _ ?_
            simp (disch := omega) only [oAld, oCV, oIf, oIld, hB.tk, List.getElem?_cons_zero, List.getElem?_cons_succ, List.set_cons_zero, List.set_cons_succ, List.drop_succ_cons, List.drop_zero, List.take_succ_cons, List.take_zero, List.length_cons, List.length_nil, List.reverse_cons, List.reverse_nil, List.nil_append, List.cons_append, Option.toList_some, Option.toList_none, va_rf_s, true_and, and_true, true_implies, false_implies, not_true_eq_false, not_false_eq_true, Nat.reduceAdd, Nat.reduceLeDiff, Nat.le_add_left, Nat.zero_le, Nat.le_refl, znew, true_or, or_true, b01_t, b01_f, b01_ok, bool_ft, vp_b01, vp_b0, vp_b1, b01_eq0, b01_eq1, implies_true, nI_add, nI_clamp, zi_in, zi_le_t, zi_le_f, zi_lt_t, zi_lt_f, zi_eq_t, zi_eq_f, nI_leI, nI_ltI, nI_eq, z_in, pk_mul, zu_same, zu_rw, zu_ix, zi_ne0, zi_sub, zi_m1, Nat.add_sub_cancel, Nat.reduceMul, Nat.reduceSub]
            exact run 1 hn (by omega)
          | false =>
            refine sX2_read_71 _ _ _ _ _ ?_
            simp (disch := omega) only [oAld, oCV, oIf, oIld, hB.tk, List.getElem?_cons_zero, List.getElem?_cons_succ, List.set_cons_zero, List.set_cons_succ, List.drop_succ_cons, List.drop_zero, List.take_succ_cons, List.take_zero, List.length_cons, List.length_nil, List.reverse_cons, List.reverse_nil, List.nil_append, List.cons_append, Option.toList_some, Option.toList_none, va_rf_s, true_and, and_true, true_implies, false_implies, not_true_eq_false, not_false_eq_true, Nat.reduceAdd, Nat.reduceLeDiff, Nat.le_add_left, Nat.zero_le, Nat.le_refl, znew, true_or, or_true, b01_t, b01_f, b01_ok, bool_ft, vp_b01, vp_b0, vp_b1, b01_eq0, b01_eq1, implies_true, nI_add, nI_clamp, zi_in, zi_le_t, zi_le_f, zi_lt_t, zi_lt_f, zi_eq_t, zi_eq_f, nI_leI, nI_ltI, nI_eq, z_in, pk_mul, zu_same, zu_rw, zu_ix, zi_ne0, zi_sub, zi_m1, Nat.add_sub_cancel, Nat.reduceMul, Nat.reduceSub]
            refine zC.of0 (zX2_isDigit hB hP' hBy (by omega)) (by omega) (Nat.zero_le _) (Nat.zero_le _) ?_
            rintro _ _ ⟨rfl, rfl⟩
            cases hD : isD (by8 P i) with
            | true =>
              have hn := runD_pos hi hD
              have hle := runD_le P i
              have hin : ∀ j, j < runD P i → isD (by8 P (i + j)) = true := fun j hj => run_in (p := fun j => isD (by8 P j)) hj
              have hO : tkO P i = ((if 4 < runD P i then 3 else 2, i, dgV P i (min (runD P i) 4), []), i + runD P i) := by rw [tkO, if_neg (by rw [hL]; decide), if_pos hD]
              have hend' := runD_end P i
              generalize runD P i = n at hn hle hin hO hend'
              have run : ∀ j, j ≤ n → 1 ≤ j → zW V YX2_read 134 [some (.ref (c + 2)), some (.int (nI i)), some (.int (nI 1)), some (.int xc), some (.int (nI (i + j))), x5, some (.int (nI 0))] [] (z, h, S', L) 0 0 := by
                refine z_down ?_ (fun j hj ihj => ?_)
                · intro _
                  refine sX2_read_134 _ _ _ _ _ ?_
                  simp (disch := omega) only [oAld, oCV, oIld, hB.tk, List.getElem?_cons_zero, List.getElem?_cons_succ, List.set_cons_zero, List.set_cons_succ, List.drop_succ_cons, List.drop_zero, List.take_succ_cons, List.take_zero, List.length_cons, List.length_nil, List.reverse_cons, List.reverse_nil, List.nil_append, List.cons_append, Option.toList_some, Option.toList_none, va_rf_s, true_and, and_true, true_implies, false_implies, not_true_eq_false, not_false_eq_true, Nat.reduceAdd, Nat.reduceLeDiff, Nat.le_add_left, Nat.zero_le, Nat.le_refl, znew, true_or, or_true, b01_t, b01_f, b01_ok, bool_ft, vp_b01, vp_b0, vp_b1, b01_eq0, b01_eq1, implies_true, nI_add, nI_clamp, zi_in, zi_le_t, zi_le_f, zi_lt_t, zi_lt_f, zi_eq_t, zi_eq_f, nI_leI, nI_ltI, nI_eq, z_in, pk_mul, zu_same, zu_rw, zu_ix, zi_ne0, zi_sub, zi_m1, Nat.add_sub_cancel, Nat.reduceMul, Nat.reduceSub]
                  refine zC.of0 (zX2_isDigit hB hP' hBy (by omega)) (by omega) (Nat.zero_le _) (Nat.zero_le _) ?_
                  rintro _ _ ⟨rfl, rfl⟩
                  rw [hend']
                  have esub : i + n - i = n := by omega
                  by_cases h4 : 4 < n
                  · rw [if_pos h4] at hO
                    refine sX2_read_140 _ _ _ _ _ ?_
                    simp (disch := omega) only [oAld, oBin, oCV, oIf, oIfc, oIld, oInc, oIst, oNop, oPush, hB.tk, esub, List.getElem?_cons_zero, List.getElem?_cons_succ, List.set_cons_zero, List.set_cons_succ, List.drop_succ_cons, List.drop_zero, List.take_succ_cons, List.take_zero, List.length_cons, List.length_nil, List.reverse_cons, List.reverse_nil, List.nil_append, List.cons_append, Option.toList_some, Option.toList_none, va_rf_s, true_and, and_true, true_implies, false_implies, not_true_eq_false, not_false_eq_true, Nat.reduceAdd, Nat.reduceLeDiff, Nat.le_add_left, Nat.zero_le, Nat.le_refl, znew, true_or, or_true, b01_t, b01_f, b01_ok, bool_ft, vp_b01, vp_b0, vp_b1, b01_eq0, b01_eq1, implies_true, nI_add, nI_clamp, zi_in, zi_le_t, zi_le_f, zi_lt_t, zi_lt_f, zi_eq_t, zi_eq_f, nI_leI, nI_ltI, nI_eq, z_in, pk_mul, zu_same, zu_rw, zu_ix, zi_ne0, zi_sub, zi_m1, Nat.add_sub_cancel, Nat.reduceMul, Nat.reduceSub]
                    refine zC.of0 (zX2_add hB (s := 5) (a := i) (b := i + n) (w := nI 0) hT.1 (by omega) (by omega) (by omega) (by omega) (i_s2 (by omega))) (by omega) (Nat.zero_le _) (Nat.zero_le _) ?_
                    rintro _ _ ⟨rfl, rfl⟩
                    exact next _ 5 _ _ _ hO (by omega) (by omega) (by omega) ⟨⟨rfl, by show i ≤ 2000; omega⟩, Or.inr (Or.inl ⟨rfl, rfl⟩)⟩ ⟨fun _ => rfl, fun _ => rfl⟩ (by show 3 ≠ 0; omega) rfl
                  · rw [if_neg h4, Nat.min_eq_left (by omega)] at hO
                    refine sX2_read_140 _ _ _ _ _ ?_
                    simp (disch := omega) only [oAld, oBin, oCV, oIf, oIfc, oIld, oInc, oIst, oNop, oPush, hB.tk, esub, List.getElem?_cons_zero, List.getElem?_cons_succ, List.set_cons_zero, List.set_cons_succ, List.drop_succ_cons, List.drop_zero, List.take_succ_cons, List.take_zero, List.length_cons, List.length_nil, List.reverse_cons, List.reverse_nil, List.nil_append, List.cons_append, Option.toList_some, Option.toList_none, va_rf_s, true_and, and_true, true_implies, false_implies, not_true_eq_false, not_false_eq_true, Nat.reduceAdd, Nat.reduceLeDiff, Nat.le_add_left, Nat.zero_le, Nat.le_refl, znew, true_or, or_true, b01_t, b01_f, b01_ok, bool_ft, vp_b01, vp_b0, vp_b1, b01_eq0, b01_eq1, implies_true, nI_add, nI_clamp, zi_in, zi_le_t, zi_le_f, zi_lt_t, zi_lt_f, zi_eq_t, zi_eq_f, nI_leI, nI_ltI, nI_eq, z_in, pk_mul, zu_same, zu_rw, zu_ix, zi_ne0, zi_sub, zi_m1, Nat.add_sub_cancel, Nat.reduceMul, Nat.reduceSub]
                    refine zC.of0 (zX2_add hB (s := 1) (a := i) (b := i + n) (w := nI 0) hT.1 (by omega) (by omega) (by omega) (by omega) (i_s2 (by omega))) (by omega) (Nat.zero_le _) (Nat.zero_le _) ?_
                    rintro _ _ ⟨rfl, rfl⟩
                    exact next _ 1 _ _ _ hO (by omega) (by omega) (by omega) ⟨⟨rfl, by show i ≤ 2000; omega⟩, Or.inr (Or.inr (Or.inr (Or.inl ⟨rfl, rfl, n, by omega, rfl, by show i + n ≤ _; omega, rfl, hin⟩)))⟩ ⟨fun q => absurd q (by omega), fun q => absurd q (by show ¬ 2 = 3; omega)⟩ (by show 2 ≠ 0; omega) rfl
                · intro hj1
                  refine sX2_read_134 _ _ _ _ _ ?_
                  simp (disch := omega) only [oAld, oCV, oIld, hB.tk, List.getElem?_cons_zero, List.getElem?_cons_succ, List.set_cons_zero, List.set_cons_succ, List.drop_succ_cons, List.drop_zero, List.take_succ_cons, List.take_zero, List.length_cons, List.length_nil, List.reverse_cons, List.reverse_nil, List.nil_append, List.cons_append, Option.toList_some, Option.toList_none, va_rf_s, true_and, and_true, true_implies, false_implies, not_true_eq_false, not_false_eq_true, Nat.reduceAdd, Nat.reduceLeDiff, Nat.le_add_left, Nat.zero_le, Nat.le_refl, znew, true_or, or_true, b01_t, b01_f, b01_ok, bool_ft, vp_b01, vp_b0, vp_b1, b01_eq0, b01_eq1, implies_true, nI_add, nI_clamp, zi_in, zi_le_t, zi_le_f, zi_lt_t, zi_lt_f, zi_eq_t, zi_eq_f, nI_leI, nI_ltI, nI_eq, z_in, pk_mul, zu_same, zu_rw, zu_ix, zi_ne0, zi_sub, zi_m1, Nat.add_sub_cancel, Nat.reduceMul, Nat.reduceSub]
                  refine zC.of0 (zX2_isDigit hB hP' hBy (by omega)) (by omega) (Nat.zero_le _) (Nat.zero_le _) ?_
                  rintro _ _ ⟨rfl, rfl⟩
                  rw [hin j hj]
                  refine sX2_read_140 _ _ _ _ _ ?_
                  simp (disch := omega) only [oAld, oBin, oCV, oIf, oIfc, oIld, oInc, oIst, oNop, oPush, hB.tk, List.getElem?_cons_zero, List.getElem?_cons_succ, List.set_cons_zero, List.set_cons_succ, List.drop_succ_cons, List.drop_zero, List.take_succ_cons, List.take_zero, List.length_cons, List.length_nil, List.reverse_cons, List.reverse_nil, List.nil_append, List.cons_append, Option.toList_some, Option.toList_none, va_rf_s, true_and, and_true, true_implies, false_implies, not_true_eq_false, not_false_eq_true, Nat.reduceAdd, Nat.reduceLeDiff, Nat.le_add_left, Nat.zero_le, Nat.le_refl, znew, true_or, or_true, b01_t, b01_f, b01_ok, bool_ft, vp_b01, vp_b0, vp_b1, b01_eq0, b01_eq1, implies_true, nI_add, nI_clamp, zi_in, zi_le_t, zi_le_f, zi_lt_t, zi_lt_f, zi_eq_t, zi_eq_f, nI_leI, nI_ltI, nI_eq, z_in, pk_mul, zu_same, zu_rw, zu_ix, zi_ne0, zi_sub, zi_m1, Nat.add_sub_cancel, Nat.reduceMul, Nat.reduceSub]
                  exact ihj (by omega)
              refine sX2_read_131 _ _ _ _ _ ?_
              simp (disch := omega) only [oAld, oCV, oIf, oIld, hB.tk, List.getElem?_cons_zero, List.getElem?_cons_succ, List.set_cons_zero, List.set_cons_succ, List.drop_succ_cons, List.drop_zero, List.take_succ_cons, List.take_zero, List.length_cons, List.length_nil, List.reverse_cons, List.reverse_nil, List.nil_append, List.cons_append, Option.toList_some, Option.toList_none, va_rf_s, true_and, and_true, true_implies, false_implies, not_true_eq_false, not_false_eq_true, Nat.reduceAdd, Nat.reduceLeDiff, Nat.le_add_left, Nat.zero_le, Nat.le_refl, znew, true_or, or_true, b01_t, b01_f, b01_ok, bool_ft, vp_b01, vp_b0, vp_b1, b01_eq0, b01_eq1, implies_true, nI_add, nI_clamp, zi_in, zi_le_t, zi_le_f, zi_lt_t, zi_lt_f, zi_eq_t, zi_eq_f, nI_leI, nI_ltI, nI_eq, z_in, pk_mul, zu_same, zu_rw, zu_ix, zi_ne0, zi_sub, zi_m1, Nat.add_sub_cancel, Nat.reduceMul, Nat.reduceSub]
              exact run 1 hn (by omega)
            | false =>
              have hO : tkO P i = ((sgK (by8 P i), i, 0, []), i + 1) := by rw [tkO, if_neg (by rw [hL]; decide), if_neg (by rw [hD]; decide)]
              have hsg := sg_all (by8 P i) (by8_lt P i)
              refine sX2_read_131 _ _ _ _ _ ?_
              simp (disch := omega) only [oAld, oCV, oIf, oIld, hB.tk, List.getElem?_cons_zero, List.getElem?_cons_succ, List.set_cons_zero, List.set_cons_succ, List.drop_succ_cons, List.drop_zero, List.take_succ_cons, List.take_zero, List.length_cons, List.length_nil, List.reverse_cons, List.reverse_nil, List.nil_append, List.cons_append, Option.toList_some, Option.toList_none, va_rf_s, true_and, and_true, true_implies, false_implies, not_true_eq_false, not_false_eq_true, Nat.reduceAdd, Nat.reduceLeDiff, Nat.le_add_left, Nat.zero_le, Nat.le_refl, znew, true_or, or_true, b01_t, b01_f, b01_ok, bool_ft, vp_b01, vp_b0, vp_b1, b01_eq0, b01_eq1, implies_true, nI_add, nI_clamp, zi_in, zi_le_t, zi_le_f, zi_lt_t, zi_lt_f, zi_eq_t, zi_eq_f, nI_leI, nI_ltI, nI_eq, z_in, pk_mul, zu_same, zu_rw, zu_ix, zi_ne0, zi_sub, zi_m1, Nat.add_sub_cancel, Nat.reduceMul, Nat.reduceSub]
              refine zC.of0 (zX2_sign hB hP' hBy (by omega)) (by omega) (Nat.zero_le _) (Nat.zero_le _) ?_
              rintro _ _ ⟨rfl, rfl⟩
              unfold sgC
              rcases hsg with q | ⟨q1, q2, q3, q4⟩
              · rw [if_pos q]
                rw [q] at hO
                refine sX2_read_172 _ _ _ _ _ ?_
                simp (disch := omega) only [oAld, oCV, oIf, oIld, oIst, oNop, oPush, hB.tk, List.getElem?_cons_zero, List.getElem?_cons_succ, List.set_cons_zero, List.set_cons_succ, List.drop_succ_cons, List.drop_zero, List.take_succ_cons, List.take_zero, List.length_cons, List.length_nil, List.reverse_cons, List.reverse_nil, List.nil_append, List.cons_append, Option.toList_some, Option.toList_none, va_rf_s, true_and, and_true, true_implies, false_implies, not_true_eq_false, not_false_eq_true, Nat.reduceAdd, Nat.reduceLeDiff, Nat.le_add_left, Nat.zero_le, Nat.le_refl, znew, true_or, or_true, b01_t, b01_f, b01_ok, bool_ft, vp_b01, vp_b0, vp_b1, b01_eq0, b01_eq1, implies_true, nI_add, nI_clamp, zi_in, zi_le_t, zi_le_f, zi_lt_t, zi_lt_f, zi_eq_t, zi_eq_f, nI_leI, nI_ltI, nI_eq, z_in, pk_mul, zu_same, zu_rw, zu_ix, zi_ne0, zi_sub, zi_m1, Nat.add_sub_cancel, Nat.reduceMul, Nat.reduceSub]
                refine zC.of0 (zX2_add hB (s := 5) (a := i) (b := i + 1) (w := nI 0) hT.1 (by omega) (by omega) (by omega) (by omega) (i_s2 (by omega))) (by omega) (Nat.zero_le _) (Nat.zero_le _) ?_
                rintro _ _ ⟨rfl, rfl⟩
                exact next _ 5 _ _ _ hO (by omega) (by omega) (by omega) ⟨⟨rfl, by show i ≤ 2000; omega⟩, Or.inr (Or.inl ⟨rfl, rfl⟩)⟩ ⟨fun _ => rfl, fun _ => rfl⟩ (by show 3 ≠ 0; omega) rfl
              · rw [if_neg (by omega)]
                generalize hu : by8 P i = u at q1 q2 q3 q4 hO
                refine sX2_read_172 _ _ _ _ _ ?_
                simp (disch := omega) only [oAld, oCV, oIf, oIld, oIst, oNop, oPush, hB.tk, List.getElem?_cons_zero, List.getElem?_cons_succ, List.set_cons_zero, List.set_cons_succ, List.drop_succ_cons, List.drop_zero, List.take_succ_cons, List.take_zero, List.length_cons, List.length_nil, List.reverse_cons, List.reverse_nil, List.nil_append, List.cons_append, Option.toList_some, Option.toList_none, va_rf_s, true_and, and_true, true_implies, false_implies, not_true_eq_false, not_false_eq_true, Nat.reduceAdd, Nat.reduceLeDiff, Nat.le_add_left, Nat.zero_le, Nat.le_refl, znew, true_or, or_true, b01_t, b01_f, b01_ok, bool_ft, vp_b01, vp_b0, vp_b1, b01_eq0, b01_eq1, implies_true, nI_add, nI_clamp, zi_in, zi_le_t, zi_le_f, zi_lt_t, zi_lt_f, zi_eq_t, zi_eq_f, nI_leI, nI_ltI, nI_eq, z_in, pk_mul, zu_same, zu_rw, zu_ix, zi_ne0, zi_sub, zi_m1, Nat.add_sub_cancel, Nat.reduceMul, Nat.reduceSub]
                refine zC.of0 (zX2_add hB (s := 2) (a := i) (b := i + 1) (w := nI u) hT.1 (by omega) (by omega) (by omega) (by omega) (i_s2 (by omega))) (by omega) (Nat.zero_le _) (Nat.zero_le _) ?_
                rintro _ _ ⟨rfl, rfl⟩
                exact next _ 2 _ _ _ hO (by omega) (by omega) (by omega) ⟨⟨rfl, by show i ≤ 2000; omega⟩, Or.inr (Or.inr (Or.inr (Or.inr (Or.inr ⟨q1, rfl, by show nI u = nI (sgI (sgK u)); rw [q2]⟩))))⟩ ⟨fun q => absurd q (by omega), fun q => absurd q (by show ¬ sgK u = 3; omega)⟩ (by show sgK u ≠ 0; omega) rfl
  refine sX2_read_0 _ _ _ _ _ ?_
  simp (disch := omega) only [oAld, oIst, oPI, oPush, hB.tk, List.getElem?_cons_zero, List.getElem?_cons_succ, List.set_cons_zero, List.set_cons_succ, List.drop_succ_cons, List.drop_zero, List.take_succ_cons, List.take_zero, List.length_cons, List.length_nil, List.reverse_cons, List.reverse_nil, List.nil_append, List.cons_append, Option.toList_some, Option.toList_none, va_rf_s, true_and, and_true, true_implies, false_implies, not_true_eq_false, not_false_eq_true, Nat.reduceAdd, Nat.reduceLeDiff, Nat.le_add_left, Nat.zero_le, Nat.le_refl, znew, true_or, or_true, b01_t, b01_f, b01_ok, bool_ft, vp_b01, vp_b0, vp_b1, b01_eq0, b01_eq1, implies_true, nI_add, nI_clamp, zi_in, zi_le_t, zi_le_f, zi_lt_t, zi_lt_f, zi_eq_t, zi_eq_f, nI_leI, nI_ltI, nI_eq, z_in, pk_mul, zu_same, zu_rw, zu_ix, zi_ne0, zi_sub, zi_m1, Nat.add_sub_cancel, Nat.reduceMul, Nat.reduceSub]
  refine loop (P.length + 1) 0 [] _ _ _ _ _ (by omega) (by omega) rfl (by simp) ⟨zu_same _ _ _ _, fun j hj => absurd hj (by simp)⟩ (fun j hj => absurd hj (by simp)) ⟨fun a h1 _ _ _ _ => zu_rw _ _ h1, fun j hj => zu_ix _ _ hj⟩
end EE
