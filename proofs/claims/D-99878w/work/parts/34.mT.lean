/-! the model: a text is cut up -/
theorem lg_cmp0 (x y : Int64) : (lg_cmp x y = nI 0) = (x = y) := by
  unfold lg_cmp
  by_cases h1 : x > y
  · rw [if_pos h1]
    refine propext ⟨fun h => absurd h (by decide), fun h => ?_⟩
    subst h
    exact absurd h1 (Int64.lt_irrefl)
  · rw [if_neg h1]
    by_cases h2 : x = y
    · rw [if_pos h2]; exact propext ⟨fun _ => h2, fun _ => rfl⟩
    · rw [if_neg h2]; exact propext ⟨fun h => absurd h (by decide), fun h => absurd h h2⟩
def hsR (w : List Nat) : Nat := hsL w.reverse
theorem hsR_cons (c : Nat) (w : List Nat) : hsR (c :: w) = 27 * hsR w + c := by
  unfold hsR; rw [List.reverse_cons, hsL_snoc]
theorem hsR_inj : ∀ {a b : List Nat}, (∀ x ∈ a, 1 ≤ x ∧ x ≤ 26) → (∀ x ∈ b, 1 ≤ x ∧ x ≤ 26) → hsR a = hsR b → a = b
  | [], [], _, _, _ => rfl
  | [], c :: w, _, hb, h => by
    rw [hsR_cons] at h
    have := hb c (List.mem_cons_self ..)
    have h0 : hsR [] = 0 := rfl
    omega
  | c :: w, [], ha, _, h => by
    rw [hsR_cons] at h
    have := ha c (List.mem_cons_self ..)
    have h0 : hsR [] = 0 := rfl
    omega
  | c :: w, d :: v, ha, hb, h => by
    rw [hsR_cons, hsR_cons] at h
    have h1 := ha c (List.mem_cons_self ..)
    have h2 := hb d (List.mem_cons_self ..)
    have hcd : c = d := by omega
    have hwv : hsR w = hsR v := by omega
    rw [hcd, hsR_inj (fun x hx => ha x (List.mem_cons_of_mem _ hx)) (fun x hx => hb x (List.mem_cons_of_mem _ hx)) hwv]
def isNm (w : List Nat) : Prop := ∀ x ∈ w, 1 ≤ x ∧ x ≤ 26
theorem hsL_inj {a b : List Nat} (ha : isNm a) (hb : isNm b) (h : hsL a = hsL b) : a = b := by
  have : hsR a.reverse = hsR b.reverse := by unfold hsR; rw [List.reverse_reverse, List.reverse_reverse]; exact h
  have := hsR_inj (fun x hx => ha x (List.mem_reverse.mp hx)) (fun x hx => hb x (List.mem_reverse.mp hx)) this
  exact List.reverse_inj.mp this
theorem kwL_nm : ∀ k, k < 23 → isNm (kwL k) ∧ hsL (kwL k) < 2 ^ 40 := by
  unfold isNm; decide
theorem nmL_nm {P : List Int32} {i : Nat} : ∀ n, (∀ j, j < n → isL (by8 P (i + j)) = true) → isNm (nmL P i n)
  | 0, _ => fun x hx => by cases hx
  | n + 1, h => by
    intro x hx
    rw [nmL, List.mem_append] at hx
    rcases hx with hx | hx
    · exact nmL_nm n (fun j hj => h j (by omega)) x hx
    · have hl : 97 ≤ by8 P (i + n) ∧ by8 P (i + n) ≤ 122 := by simpa [isL] using h n (by omega)
      rw [List.mem_singleton] at hx
      omega
/-- all tokens of a text -/
def tkA (P : List Int32) : List zTk := tks P (P.length + 1) 0
theorem runL_pos {P : List Int32} {i : Nat} (hi : i < P.length) (h : isL (by8 P i) = true) : 0 < runL P i := by
  unfold runL
  obtain ⟨m, hm⟩ : ∃ m, P.length - i = m + 1 := ⟨P.length - i - 1, by omega⟩
  rw [hm, run, if_pos h]; omega
theorem runD_pos {P : List Int32} {i : Nat} (hi : i < P.length) (h : isD (by8 P i) = true) : 0 < runD P i := by
  unfold runD
  obtain ⟨m, hm⟩ : ∃ m, P.length - i = m + 1 := ⟨P.length - i - 1, by omega⟩
  rw [hm, run, if_pos h]; omega
theorem runL_le (P : List Int32) (i : Nat) : runL P i ≤ P.length - i := run_le _ _
theorem runD_le (P : List Int32) (i : Nat) : runD P i ≤ P.length - i := run_le _ _
theorem dgV_lt {P : List Int32} {i : Nat} : ∀ n, (∀ j, j < n → isD (by8 P (i + j)) = true) → dgV P i n < 10 ^ n
  | 0, _ => Nat.zero_lt_one
  | n + 1, h => by
    have ih := dgV_lt n (fun j hj => h j (by omega))
    have hl : 48 ≤ by8 P (i + n) ∧ by8 P (i + n) ≤ 57 := by simpa [isD] using h n (by omega)
    rw [dgV, Nat.pow_succ]
    omega
section MT
variable {l : Launch} {E : zE} {b z : Nat} {h : Nat → Option zSh} {S : Nat → Nat → Int32} {L : Nat → Nat → Int64} {P : List Int32} {K : List zTk}
/-- what cutting up may change -/
def mCu (b : Nat) (S S' : Nat → Nat → Int32) (L L' : Nat → Nat → Int64) : Prop := zfr [3, 4, 5] [10] b S S' ∧ ∀ a, a ≠ b + 6 → L' a = L a
theorem mCu.tr {S S' S'' : Nat → Nat → Int32} {L L' L'' : Nat → Nat → Int64} (h : mCu b S S' L L') (h' : mCu b S' S'' L' L'') : mCu b S S'' L L'' := ⟨h.1.tt h'.1, fun a ha => (h'.2 a ha).trans (h.2 a ha)⟩
def mKey (b : Nat) (L : Nat → Nat → Int64) : Prop := ∀ k, k < 23 → L (b + 7) k = lN (hsL (kwL k))
/-- a word -/
theorem zX10_cu_word {l : Launch} {E : zE} {V : zV} (hVl : V.1 = l) (hVE : V.2.1 = E) (hVd : V.2.2.1 = 2) (hM : isM h b) (hT : mTx b S P) (hKey : mKey b L) (hK : mTK b S L K) (hKl : K.length ≤ 400) {i : Nat} (hi : i < P.length) (hL : isL (by8 P i) = true)
    (hn : ∀ S' L' x2 x3 x4 x5 x6 x7, mCu b S S' L L' → mTK b S' L' (K ++ [(tkO P i).1]) → zW V YX10_cutsUp 7 [some (.ref b), some (.int (nI (tkO P i).2)), x2, x3, x4, x5, x6, x7] [] (z, h, S', L') 0 0) (x2 x4 x5 x6 x7 : Option Value) :
    zW V YX10_cutsUp 85 [some (.ref b), some (.int (nI i)), x2, some (.int (nI 0)), some (.long (lN 0)), none, x6, x7] [] (z, h, S, L) 0 0 := by
  have hP := hT.2.1
  have hr := runL_le P i
  have hin : ∀ j, j < runL P i → isL (by8 P (i + j)) = true := fun j hj => run_in (p := fun j => isL (by8 P j)) hj
  have htk : tkO P i = ((if 8 < runL P i then 3 else kwM (nmL P i (runL P i)) 23, i, 0, nmL P i (min (runL P i) 8)), i + runL P i) := by rw [tkO, if_pos hL]
  rw [htk] at hn
  have loop : ∀ n, n ≤ runL P i → zW V YX10_cutsUp 85 [some (.ref b), some (.int (nI i)), x2, some (.int (nI n)), some (.long (lN (hsL (nmL P i (min n 8))))), none, x6, x7] [] (z, h, S, L) 0 0 := by
    refine z_down ?_ (fun n hnr ih => ?_)
    · have he := runL_end P i
      refine sX10_cutsUp_85 _ _ _ _ _ ?_
      simp (disch := omega) only [oAld, oBin, oCV, oIld, hM.1, List.getElem?_cons_zero, List.getElem?_cons_succ, List.set_cons_zero, List.set_cons_succ, List.drop_succ_cons, List.drop_zero, List.take_succ_cons, List.take_zero, List.length_cons, List.length_nil, List.reverse_cons, List.reverse_nil, List.nil_append, List.cons_append, Option.toList_some, Option.toList_none, va_rf_s, true_and, and_true, true_implies, false_implies, not_true_eq_false, not_false_eq_true, Nat.reduceAdd, Nat.reduceLeDiff, Nat.le_add_left, Nat.zero_le, Nat.le_refl, znew, true_or, or_true, b01_t, b01_f, b01_ok, bool_ft, vp_b01, vp_b0, vp_b1, b01_eq0, b01_eq1, implies_true, nI_add, nI_clamp, zi_in, zi_le_t, zi_le_f, zi_lt_t, zi_lt_f, zi_eq_t, zi_eq_f, nI_leI, nI_ltI, nI_eq, z_in, pk_mul, zu_same, zu_rw, zu_ix, zi_ne0, zi_sub, zi_m1, Nat.add_sub_cancel, Nat.reduceMul, Nat.reduceSub]
      refine zC.of0 (zX10_byteAt hM hT (by omega)) (by omega) (Nat.zero_le _) (Nat.zero_le _) ?_
      rintro _ _ ⟨rfl, rfl⟩
      refine sX10_cutsUp_92 _ _ _ _ _ ?_
      simp (disch := omega) only [oCS, List.getElem?_cons_zero, List.getElem?_cons_succ, List.set_cons_zero, List.set_cons_succ, List.drop_succ_cons, List.drop_zero, List.take_succ_cons, List.take_zero, List.length_cons, List.length_nil, List.reverse_cons, List.reverse_nil, List.nil_append, List.cons_append, Option.toList_some, Option.toList_none, va_rf_s, true_and, and_true, true_implies, false_implies, not_true_eq_false, not_false_eq_true, Nat.reduceAdd, Nat.reduceLeDiff, Nat.le_add_left, Nat.zero_le, Nat.le_refl, znew, true_or, or_true, b01_t, b01_f, b01_ok, bool_ft, vp_b01, vp_b0, vp_b1, b01_eq0, b01_eq1, implies_true, nI_add, nI_clamp, zi_in, zi_le_t, zi_le_f, zi_lt_t, zi_lt_f, zi_eq_t, zi_eq_f, nI_leI, nI_ltI, nI_eq, z_in, pk_mul, zu_same, zu_rw, zu_ix, zi_ne0, zi_sub, zi_m1, Nat.add_sub_cancel, Nat.reduceMul, Nat.reduceSub]
      refine zC.of0 (zX10_isLetter (by8_lt _ _) _) (by omega) (Nat.zero_le _) (Nat.zero_le _) ?_
      rintro _ _ ⟨rfl, rfl⟩
      rw [he]
      generalize hmin : nmL P i (min (runL P i) 8) = nm at hn ⊢
      by_cases h8 : 8 < runL P i
      · rw [if_pos h8] at hn
        refine sX10_cutsUp_95 _ _ _ _ _ ?_
        simp (disch := omega) only [oAld, oBin, oCV, oIf, oIfc, oIld, oInc, oLld, oNop, oPush, hM.1, List.getElem?_cons_zero, List.getElem?_cons_succ, List.set_cons_zero, List.set_cons_succ, List.drop_succ_cons, List.drop_zero, List.take_succ_cons, List.take_zero, List.length_cons, List.length_nil, List.reverse_cons, List.reverse_nil, List.nil_append, List.cons_append, Option.toList_some, Option.toList_none, va_rf_s, true_and, and_true, true_implies, false_implies, not_true_eq_false, not_false_eq_true, Nat.reduceAdd, Nat.reduceLeDiff, Nat.le_add_left, Nat.zero_le, Nat.le_refl, znew, true_or, or_true, b01_t, b01_f, b01_ok, bool_ft, vp_b01, vp_b0, vp_b1, b01_eq0, b01_eq1, implies_true, nI_add, nI_clamp, zi_in, zi_le_t, zi_le_f, zi_lt_t, zi_lt_f, zi_eq_t, zi_eq_f, nI_leI, nI_ltI, nI_eq, z_in, pk_mul, zu_same, zu_rw, zu_ix, zi_ne0, zi_sub, zi_m1, Nat.add_sub_cancel, Nat.reduceMul, Nat.reduceSub]
        refine sX10_cutsUp_135 _ _ _ _ _ ?_
        simp (disch := omega) only [oAld, oCV, oIfc, oIld, oIst, oLld, oPush, hM.1, List.getElem?_cons_zero, List.getElem?_cons_succ, List.set_cons_zero, List.set_cons_succ, List.drop_succ_cons, List.drop_zero, List.take_succ_cons, List.take_zero, List.length_cons, List.length_nil, List.reverse_cons, List.reverse_nil, List.nil_append, List.cons_append, Option.toList_some, Option.toList_none, va_rf_s, true_and, and_true, true_implies, false_implies, not_true_eq_false, not_false_eq_true, Nat.reduceAdd, Nat.reduceLeDiff, Nat.le_add_left, Nat.zero_le, Nat.le_refl, znew, true_or, or_true, b01_t, b01_f, b01_ok, bool_ft, vp_b01, vp_b0, vp_b1, b01_eq0, b01_eq1, implies_true, nI_add, nI_clamp, zi_in, zi_le_t, zi_le_f, zi_lt_t, zi_lt_f, zi_eq_t, zi_eq_f, nI_leI, nI_ltI, nI_eq, z_in, pk_mul, zu_same, zu_rw, zu_ix, zi_ne0, zi_sub, zi_m1, Nat.add_sub_cancel, Nat.reduceMul, Nat.reduceSub]
        refine zC.of0 (zX10_token hM hK hKl _ _ _ _) (by omega) (Nat.zero_le _) (Nat.zero_le _) ?_
        rintro _ _ ⟨rfl, S1, L1, rfl, hf1, hL1, hK1⟩
        refine sX10_cutsUp_189 _ _ _ _ _ ?_
        simp (disch := omega) only [oBin, oIld, oIst, oNop, List.getElem?_cons_zero, List.getElem?_cons_succ, List.set_cons_zero, List.set_cons_succ, List.drop_succ_cons, List.drop_zero, List.take_succ_cons, List.take_zero, List.length_cons, List.length_nil, List.reverse_cons, List.reverse_nil, List.nil_append, List.cons_append, Option.toList_some, Option.toList_none, va_rf_s, true_and, and_true, true_implies, false_implies, not_true_eq_false, not_false_eq_true, Nat.reduceAdd, Nat.reduceLeDiff, Nat.le_add_left, Nat.zero_le, Nat.le_refl, znew, true_or, or_true, b01_t, b01_f, b01_ok, bool_ft, vp_b01, vp_b0, vp_b1, b01_eq0, b01_eq1, implies_true, nI_add, nI_clamp, zi_in, zi_le_t, zi_le_f, zi_lt_t, zi_lt_f, zi_eq_t, zi_eq_f, nI_leI, nI_ltI, nI_eq, z_in, pk_mul, zu_same, zu_rw, zu_ix, zi_ne0, zi_sub, zi_m1, Nat.add_sub_cancel, Nat.reduceMul, Nat.reduceSub]
        exact hn S1 L1 _ _ _ _ _ _ ⟨hf1, hL1⟩ hK1
      · rw [if_neg h8] at hn
        have hnm : nm = nmL P i (runL P i) := by rw [← hmin, Nat.min_eq_left (by omega)]
        rw [← hnm] at hn
        have hnn : isNm nm := by rw [hnm]; exact nmL_nm _ hin
        have hnl : hsL nm < 2 ^ 40 := by
          have := nmL_hs (P := P) (i := i) _ hin
          rw [← hnm] at this
          exact Nat.lt_of_lt_of_le this (Nat.le_trans (Nat.pow_le_pow_right (by omega) (by omega : runL P i ≤ 8)) (by decide))
        have loopK : ∀ k, k ≤ 23 → zW V YX10_cutsUp 146 [some (.ref b), some (.int (nI i)), x2, some (.int (nI (runL P i))), some (.long (lN (hsL nm))), none, some (.int (nI (kwM nm k))), some (.int (nI k))] [] (z, h, S, L) 0 0 := by
          refine z_down ?_ (fun k hk ihk => ?_)
          · refine sX10_cutsUp_146 _ _ _ _ _ ?_
            simp (disch := omega) only [oAld, oBin, oCV, oGR, oIf, oIfc, oIld, oInc, oIst, oLald, oLcmp, oLld, oNop, oPush, hM.1, hM.r9, hM.t9, hM.n9, List.getElem?_cons_zero, List.getElem?_cons_succ, List.set_cons_zero, List.set_cons_succ, List.drop_succ_cons, List.drop_zero, List.take_succ_cons, List.take_zero, List.length_cons, List.length_nil, List.reverse_cons, List.reverse_nil, List.nil_append, List.cons_append, Option.toList_some, Option.toList_none, va_rf_s, true_and, and_true, true_implies, false_implies, not_true_eq_false, not_false_eq_true, Nat.reduceAdd, Nat.reduceLeDiff, Nat.le_add_left, Nat.zero_le, Nat.le_refl, znew, true_or, or_true, b01_t, b01_f, b01_ok, bool_ft, vp_b01, vp_b0, vp_b1, b01_eq0, b01_eq1, implies_true, nI_add, nI_clamp, zi_in, zi_le_t, zi_le_f, zi_lt_t, zi_lt_f, zi_eq_t, zi_eq_f, nI_leI, nI_ltI, nI_eq, z_in, pk_mul, zu_same, zu_rw, zu_ix, zi_ne0, zi_sub, zi_m1, Nat.add_sub_cancel, Nat.reduceMul, Nat.reduceSub]
            refine zC.of0 (zX10_token hM hK hKl _ _ _ _) (by omega) (Nat.zero_le _) (Nat.zero_le _) ?_
            rintro _ _ ⟨rfl, S1, L1, rfl, hf1, hL1, hK1⟩
            refine sX10_cutsUp_189 _ _ _ _ _ ?_
            simp (disch := omega) only [oBin, oIld, oIst, oNop, List.getElem?_cons_zero, List.getElem?_cons_succ, List.set_cons_zero, List.set_cons_succ, List.drop_succ_cons, List.drop_zero, List.take_succ_cons, List.take_zero, List.length_cons, List.length_nil, List.reverse_cons, List.reverse_nil, List.nil_append, List.cons_append, Option.toList_some, Option.toList_none, va_rf_s, true_and, and_true, true_implies, false_implies, not_true_eq_false, not_false_eq_true, Nat.reduceAdd, Nat.reduceLeDiff, Nat.le_add_left, Nat.zero_le, Nat.le_refl, znew, true_or, or_true, b01_t, b01_f, b01_ok, bool_ft, vp_b01, vp_b0, vp_b1, b01_eq0, b01_eq1, implies_true, nI_add, nI_clamp, zi_in, zi_le_t, zi_le_f, zi_lt_t, zi_lt_f, zi_eq_t, zi_eq_f, nI_leI, nI_ltI, nI_eq, z_in, pk_mul, zu_same, zu_rw, zu_ix, zi_ne0, zi_sub, zi_m1, Nat.add_sub_cancel, Nat.reduceMul, Nat.reduceSub]
            exact hn S1 L1 _ _ _ _ _ _ ⟨hf1, hL1⟩ hK1
          · have hk1 := hKey k hk
            obtain ⟨hkn, hkl⟩ := kwL_nm k hk
            have hst : kwM nm (k + 1) = if kwL k = nm then 20 + k else kwM nm k := rfl
            rw [hst] at ihk
            have heq : (lN (hsL (kwL k)) = lN (hsL nm)) = (kwL k = nm) := by
              rw [pk_lEQ (by omega) (by omega)]
              exact propext ⟨fun q => hsL_inj hkn hnn q, fun q => by rw [q]⟩
            refine sX10_cutsUp_146 _ _ _ _ _ ?_
            simp (disch := omega) only [oAld, oBin, oCV, oGR, oIf, oIfc, oIld, oInc, oIst, oLald, oLcmp, oLld, oNop, oPush, hM.1, hM.r9, hM.t9, hM.n9, hk1, lg_cmp0, heq, List.getElem?_cons_zero, List.getElem?_cons_succ, List.set_cons_zero, List.set_cons_succ, List.drop_succ_cons, List.drop_zero, List.take_succ_cons, List.take_zero, List.length_cons, List.length_nil, List.reverse_cons, List.reverse_nil, List.nil_append, List.cons_append, Option.toList_some, Option.toList_none, va_rf_s, true_and, and_true, true_implies, false_implies, not_true_eq_false, not_false_eq_true, Nat.reduceAdd, Nat.reduceLeDiff, Nat.le_add_left, Nat.zero_le, Nat.le_refl, znew, true_or, or_true, b01_t, b01_f, b01_ok, bool_ft, vp_b01, vp_b0, vp_b1, b01_eq0, b01_eq1, implies_true, nI_add, nI_clamp, zi_in, zi_le_t, zi_le_f, zi_lt_t, zi_lt_f, zi_eq_t, zi_eq_f, nI_leI, nI_ltI, nI_eq, z_in, pk_mul, zu_same, zu_rw, zu_ix, zi_ne0, zi_sub, zi_m1, Nat.add_sub_cancel, Nat.reduceMul, Nat.reduceSub]
            refine ⟨fun q => ?_, fun q => ?_⟩
            · rw [if_pos q] at ihk; exact ihk
            · rw [if_neg q] at ihk; exact ihk
        refine sX10_cutsUp_95 _ _ _ _ _ ?_
        simp (disch := omega) only [oAld, oBin, oCV, oIf, oIfc, oIld, oInc, oLld, oNop, oPush, hM.1, List.getElem?_cons_zero, List.getElem?_cons_succ, List.set_cons_zero, List.set_cons_succ, List.drop_succ_cons, List.drop_zero, List.take_succ_cons, List.take_zero, List.length_cons, List.length_nil, List.reverse_cons, List.reverse_nil, List.nil_append, List.cons_append, Option.toList_some, Option.toList_none, va_rf_s, true_and, and_true, true_implies, false_implies, not_true_eq_false, not_false_eq_true, Nat.reduceAdd, Nat.reduceLeDiff, Nat.le_add_left, Nat.zero_le, Nat.le_refl, znew, true_or, or_true, b01_t, b01_f, b01_ok, bool_ft, vp_b01, vp_b0, vp_b1, b01_eq0, b01_eq1, implies_true, nI_add, nI_clamp, zi_in, zi_le_t, zi_le_f, zi_lt_t, zi_lt_f, zi_eq_t, zi_eq_f, nI_leI, nI_ltI, nI_eq, z_in, pk_mul, zu_same, zu_rw, zu_ix, zi_ne0, zi_sub, zi_m1, Nat.add_sub_cancel, Nat.reduceMul, Nat.reduceSub]
        refine sX10_cutsUp_135 _ _ _ _ _ ?_
        simp (disch := omega) only [oAld, oCV, oIfc, oIld, oIst, oLld, oPush, hM.1, List.getElem?_cons_zero, List.getElem?_cons_succ, List.set_cons_zero, List.set_cons_succ, List.drop_succ_cons, List.drop_zero, List.take_succ_cons, List.take_zero, List.length_cons, List.length_nil, List.reverse_cons, List.reverse_nil, List.nil_append, List.cons_append, Option.toList_some, Option.toList_none, va_rf_s, true_and, and_true, true_implies, false_implies, not_true_eq_false, not_false_eq_true, Nat.reduceAdd, Nat.reduceLeDiff, Nat.le_add_left, Nat.zero_le, Nat.le_refl, znew, true_or, or_true, b01_t, b01_f, b01_ok, bool_ft, vp_b01, vp_b0, vp_b1, b01_eq0, b01_eq1, implies_true, nI_add, nI_clamp, zi_in, zi_le_t, zi_le_f, zi_lt_t, zi_lt_f, zi_eq_t, zi_eq_f, nI_leI, nI_ltI, nI_eq, z_in, pk_mul, zu_same, zu_rw, zu_ix, zi_ne0, zi_sub, zi_m1, Nat.add_sub_cancel, Nat.reduceMul, Nat.reduceSub]
        exact loopK 0 (by omega)
    · have he := hin n hnr
      have hl : 97 ≤ by8 P (i + n) ∧ by8 P (i + n) ≤ 122 := by simpa [isL] using he
      refine sX10_cutsUp_85 _ _ _ _ _ ?_
      simp (disch := omega) only [oAld, oBin, oCV, oIld, hM.1, List.getElem?_cons_zero, List.getElem?_cons_succ, List.set_cons_zero, List.set_cons_succ, List.drop_succ_cons, List.drop_zero, List.take_succ_cons, List.take_zero, List.length_cons, List.length_nil, List.reverse_cons, List.reverse_nil, List.nil_append, List.cons_append, Option.toList_some, Option.toList_none, va_rf_s, true_and, and_true, true_implies, false_implies, not_true_eq_false, not_false_eq_true, Nat.reduceAdd, Nat.reduceLeDiff, Nat.le_add_left, Nat.zero_le, Nat.le_refl, znew, true_or, or_true, b01_t, b01_f, b01_ok, bool_ft, vp_b01, vp_b0, vp_b1, b01_eq0, b01_eq1, implies_true, nI_add, nI_clamp, zi_in, zi_le_t, zi_le_f, zi_lt_t, zi_lt_f, zi_eq_t, zi_eq_f, nI_leI, nI_ltI, nI_eq, z_in, pk_mul, zu_same, zu_rw, zu_ix, zi_ne0, zi_sub, zi_m1, Nat.add_sub_cancel, Nat.reduceMul, Nat.reduceSub]
      refine zC.of0 (zX10_byteAt hM hT (by omega)) (by omega) (Nat.zero_le _) (Nat.zero_le _) ?_
      rintro _ _ ⟨rfl, rfl⟩
      refine sX10_cutsUp_92 _ _ _ _ _ ?_
      simp (disch := omega) only [oCS, List.getElem?_cons_zero, List.getElem?_cons_succ, List.set_cons_zero, List.set_cons_succ, List.drop_succ_cons, List.drop_zero, List.take_succ_cons, List.take_zero, List.length_cons, List.length_nil, List.reverse_cons, List.reverse_nil, List.nil_append, List.cons_append, Option.toList_some, Option.toList_none, va_rf_s, true_and, and_true, true_implies, false_implies, not_true_eq_false, not_false_eq_true, Nat.reduceAdd, Nat.reduceLeDiff, Nat.le_add_left, Nat.zero_le, Nat.le_refl, znew, true_or, or_true, b01_t, b01_f, b01_ok, bool_ft, vp_b01, vp_b0, vp_b1, b01_eq0, b01_eq1, implies_true, nI_add, nI_clamp, zi_in, zi_le_t, zi_le_f, zi_lt_t, zi_lt_f, zi_eq_t, zi_eq_f, nI_leI, nI_ltI, nI_eq, z_in, pk_mul, zu_same, zu_rw, zu_ix, zi_ne0, zi_sub, zi_m1, Nat.add_sub_cancel, Nat.reduceMul, Nat.reduceSub]
      refine zC.of0 (zX10_isLetter (by8_lt _ _) _) (by omega) (Nat.zero_le _) (Nat.zero_le _) ?_
      rintro _ _ ⟨rfl, rfl⟩
      rw [he]
      by_cases h8 : n < 8
      · rw [show min (n + 1) 8 = min n 8 + 1 by omega, nmL, hsL_snoc, show min n 8 = n by omega] at ih
        rw [show min n 8 = n by omega]
        refine sX10_cutsUp_95 _ _ _ _ _ ?_
        simp (disch := omega) only [oAld, oBin, oCV, oIf, oIfc, oIld, oInc, oLld, oNop, oPush, hM.1, List.getElem?_cons_zero, List.getElem?_cons_succ, List.set_cons_zero, List.set_cons_succ, List.drop_succ_cons, List.drop_zero, List.take_succ_cons, List.take_zero, List.length_cons, List.length_nil, List.reverse_cons, List.reverse_nil, List.nil_append, List.cons_append, Option.toList_some, Option.toList_none, va_rf_s, true_and, and_true, true_implies, false_implies, not_true_eq_false, not_false_eq_true, Nat.reduceAdd, Nat.reduceLeDiff, Nat.le_add_left, Nat.zero_le, Nat.le_refl, znew, true_or, or_true, b01_t, b01_f, b01_ok, bool_ft, vp_b01, vp_b0, vp_b1, b01_eq0, b01_eq1, implies_true, nI_add, nI_clamp, zi_in, zi_le_t, zi_le_f, zi_lt_t, zi_lt_f, zi_eq_t, zi_eq_f, nI_leI, nI_ltI, nI_eq, z_in, pk_mul, zu_same, zu_rw, zu_ix, zi_ne0, zi_sub, zi_m1, Nat.add_sub_cancel, Nat.reduceMul, Nat.reduceSub]
        refine zC.of0 (zX10_byteAt hM hT (by omega)) (by omega) (Nat.zero_le _) (Nat.zero_le _) ?_
        rintro _ _ ⟨rfl, rfl⟩
        refine sX10_cutsUp_113 _ _ _ _ _ ?_
        simp (disch := omega) only [oCS, List.getElem?_cons_zero, List.getElem?_cons_succ, List.set_cons_zero, List.set_cons_succ, List.drop_succ_cons, List.drop_zero, List.take_succ_cons, List.take_zero, List.length_cons, List.length_nil, List.reverse_cons, List.reverse_nil, List.nil_append, List.cons_append, Option.toList_some, Option.toList_none, va_rf_s, true_and, and_true, true_implies, false_implies, not_true_eq_false, not_false_eq_true, Nat.reduceAdd, Nat.reduceLeDiff, Nat.le_add_left, Nat.zero_le, Nat.le_refl, znew, true_or, or_true, b01_t, b01_f, b01_ok, bool_ft, vp_b01, vp_b0, vp_b1, b01_eq0, b01_eq1, implies_true, nI_add, nI_clamp, zi_in, zi_le_t, zi_le_f, zi_lt_t, zi_lt_f, zi_eq_t, zi_eq_f, nI_leI, nI_ltI, nI_eq, z_in, pk_mul, zu_same, zu_rw, zu_ix, zi_ne0, zi_sub, zi_m1, Nat.add_sub_cancel, Nat.reduceMul, Nat.reduceSub]
        refine zC.of0 (zX10_appends hl _) (by omega) (Nat.zero_le _) (Nat.zero_le _) ?_
        rintro _ _ ⟨rfl, rfl⟩
        refine sX10_cutsUp_116 _ _ _ _ _ ?_
        simp (disch := omega) only [oInc, oLst, oNop, List.getElem?_cons_zero, List.getElem?_cons_succ, List.set_cons_zero, List.set_cons_succ, List.drop_succ_cons, List.drop_zero, List.take_succ_cons, List.take_zero, List.length_cons, List.length_nil, List.reverse_cons, List.reverse_nil, List.nil_append, List.cons_append, Option.toList_some, Option.toList_none, va_rf_s, true_and, and_true, true_implies, false_implies, not_true_eq_false, not_false_eq_true, Nat.reduceAdd, Nat.reduceLeDiff, Nat.le_add_left, Nat.zero_le, Nat.le_refl, znew, true_or, or_true, b01_t, b01_f, b01_ok, bool_ft, vp_b01, vp_b0, vp_b1, b01_eq0, b01_eq1, implies_true, nI_add, nI_clamp, zi_in, zi_le_t, zi_le_f, zi_lt_t, zi_lt_f, zi_eq_t, zi_eq_f, nI_leI, nI_ltI, nI_eq, z_in, pk_mul, zu_same, zu_rw, zu_ix, zi_ne0, zi_sub, zi_m1, Nat.add_sub_cancel, Nat.reduceMul, Nat.reduceSub]
        exact ih
      · rw [show min (n + 1) 8 = min n 8 by omega] at ih
        refine sX10_cutsUp_95 _ _ _ _ _ ?_
        simp (disch := omega) only [oAld, oBin, oCV, oIf, oIfc, oIld, oInc, oLld, oNop, oPush, hM.1, List.getElem?_cons_zero, List.getElem?_cons_succ, List.set_cons_zero, List.set_cons_succ, List.drop_succ_cons, List.drop_zero, List.take_succ_cons, List.take_zero, List.length_cons, List.length_nil, List.reverse_cons, List.reverse_nil, List.nil_append, List.cons_append, Option.toList_some, Option.toList_none, va_rf_s, true_and, and_true, true_implies, false_implies, not_true_eq_false, not_false_eq_true, Nat.reduceAdd, Nat.reduceLeDiff, Nat.le_add_left, Nat.zero_le, Nat.le_refl, znew, true_or, or_true, b01_t, b01_f, b01_ok, bool_ft, vp_b01, vp_b0, vp_b1, b01_eq0, b01_eq1, implies_true, nI_add, nI_clamp, zi_in, zi_le_t, zi_le_f, zi_lt_t, zi_lt_f, zi_eq_t, zi_eq_f, nI_leI, nI_ltI, nI_eq, z_in, pk_mul, zu_same, zu_rw, zu_ix, zi_ne0, zi_sub, zi_m1, Nat.add_sub_cancel, Nat.reduceMul, Nat.reduceSub]
        exact ih
  exact loop 0 (by omega)
end MT
