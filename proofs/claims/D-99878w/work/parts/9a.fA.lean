/-! the component's parser: its state, faults, single tokens -/
/-- the sort of a kind -/
def soK (k : Nat) : Nat := if k = 0 then 4 else if k = 3 then 5 else if k = 1 then 0 else if k = 2 then 1 else if 20 ≤ k then 3 else 2
theorem soK_b (k : Nat) : soK k ≤ 5 := by
  unfold soK
  (repeat' split) <;> omega
theorem tkC.so {P : List Int32} {t : zTk} {so fr to wh : Int32} (h : tkC P t so fr to wh) : so = nI (soK t.1) := by
  unfold soK
  rcases h.2 with ⟨e, q⟩ | ⟨e, q⟩ | ⟨e, q, -⟩ | ⟨e, q, -⟩ | ⟨⟨e, e2⟩, q, -⟩ | ⟨⟨e1, e2, e3⟩, q, -⟩
  · rw [if_pos e]; exact q
  · rw [if_neg (by omega), if_pos e]; exact q
  · rw [if_neg (by omega), if_neg (by omega), if_pos e]; exact q
  · rw [if_neg (by omega), if_neg (by omega), if_neg (by omega), if_pos e]; exact q
  · rw [if_neg (by omega), if_neg (by omega), if_neg (by omega), if_neg (by omega), if_pos e]; exact q
  · rw [if_neg (by omega), if_neg (by omega), if_neg (by omega), if_neg (by omega), if_neg (by omega)]; exact q
/-- what stands while one reads: the tape, the tokens -/
def pX (c z : Nat) (h : Nat → Option zSh) (S : Nat → Nat → Int32) (P : List Int32) (A : List zTk) (N : Nat) : Prop := isC h c ∧ c + 606 ≤ z ∧ cP S c P ∧ isBy P ∧ (N ≤ 2001 ∧ N ≤ A.length ∧ 0 < N) ∧ (∀ j, j < N → tkC P (A.getD j tk0) (S (c + 5) j) (S (c + 6) j) (S (c + 7) j) (S (c + 8) j)) ∧ (∀ j, j + 1 < N → tkK A j ≠ 0 ∧ tkK A j ≠ 3) ∧ (tkK A (N - 1) = 0 ∨ tkK A (N - 1) = 3)
def pFs (c : Nat) (S S' : Nat → Nat → Int32) : Prop := ∀ a, a ≠ c + 9 → a ≠ c + 1 → S' a = S a
theorem pFs.rf {c : Nat} {S : Nat → Nat → Int32} : pFs c S S := fun _ _ _ => rfl
theorem pFs.tr {c : Nat} {S S' S'' : Nat → Nat → Int32} (h : pFs c S S') (h' : pFs c S' S'') : pFs c S S'' := fun a h1 h2 => (h' a h1 h2).trans (h a h1 h2)
/-- where the parser stands -/
def pI (c : Nat) (S : Nat → Nat → Int32) (N : Nat) (q : zCu) (o : Nat) : Prop := S (c + 9) 3 = nI q.1 ∧ S (c + 9) 4 = nI o ∧ S (c + 9) 5 = nI q.2.1 ∧ (q.2.1 ≠ 0 → S (c + 9) 6 = nI q.2.2) ∧ (q.1 ≤ 400 ∧ q.1 < N) ∧ q.2.1 ≤ 5 ∧ (q.2.2 < N ∧ N ≤ 2001) ∧ o ≤ 6
/-- a fault is told -/
def cE (c : Nat) (S : Nat → Nat → Int32) (e : zFt) : Prop := S (c + 1) 6 = nI e.1 ∧ S (c + 1) 7 = nI e.2 ∧ 1 ≤ e.1 ∧ e.1 ≤ 5 ∧ e.2 ≤ 2000
section FA
variable {l : Launch} {E : zE} {z : Nat} {h : Nat → Option zSh} {S : Nat → Nat → Int32} {L : Nat → Nat → Int64} {c : Nat} {P : List Int32} {A : List zTk} {N : Nat} {q : zCu} {o : Nat}
theorem pX.fs {S' : Nat → Nat → Int32} (hX : pX c z h S P A N) (hF : pFs c S S') : pX c z h S' P A N := by
  obtain ⟨a1, a2, a3, a4, a5, a6, a7, a8⟩ := hX
  refine ⟨a1, a2, ⟨by rw [hF _ (by omega) (by omega)]; exact a3.1, a3.2.1, fun i hi => by rw [hF _ (by omega) (by omega)]; exact a3.2.2 i hi⟩, a4, a5, fun j hj => ?_, a7, a8⟩
  rw [hF _ (by omega) (by omega), hF _ (by omega) (by omega), hF _ (by omega) (by omega), hF _ (by omega) (by omega)]; exact a6 j hj
theorem pX.nx (hX : pX c z h S P A N) {j : Nat} (hj : j < N) (h0 : tkK A j ≠ 0) (h3 : tkK A j ≠ 3) : j + 1 < N := by
  obtain ⟨-, -, -, -, -, -, -, a8⟩ := hX
  by_cases e : j = N - 1
  · rw [← e] at a8; exact absurd a8 (by omega)
  · omega
theorem pX.tk (hX : pX c z h S P A N) {j : Nat} (hj : j < N) : tkC P (A.getD j tk0) (S (c + 5) j) (S (c + 6) j) (S (c + 7) j) (S (c + 8) j) := hX.2.2.2.2.2.1 j hj
theorem pX.so (hX : pX c z h S P A N) {j : Nat} (hj : j < N) : S (c + 5) j = nI (soK (tkK A j)) := (hX.tk hj).so
theorem pX.pl (hX : pX c z h S P A N) {j : Nat} (hj : j < N) : S (c + 6) j = nI (tkP A j) ∧ tkP A j ≤ 2000 := (hX.tk hj).1
theorem pX.n (hX : pX c z h S P A N) : N ≤ 2001 := hX.2.2.2.2.1.1
def pEr {α : Type} (z : Nat) (h : Nat → Option zSh) (L : Nat → Nat → Int64) (c : Nat) (S : Nat → Nat → Int32) (res : zPR α) : Nat → zX → Prop := fun a X => ∃ e S', res = .error e ∧ a = c + 1 ∧ X = (z, h, S', L) ∧ pFs c S S' ∧ cE c S' e
def pOk (z : Nat) (h : Nat → Option zSh) (L : Nat → Nat → Int64) (c : Nat) (S : Nat → Nat → Int32) (N o : Nat) (res : zPR zCu) : Option Value → zX → Prop := fun r X => r = none ∧ ∃ q' S', res = .ok q' ∧ X = (z, h, S', L) ∧ pFs c S S' ∧ pI c S' N q' o
theorem zX3_wrongAt (hX : pX c z h S P A N) {n t : Nat} (ht : t < N) (hn : 1 ≤ n ∧ n ≤ 5) : zM l E 1 YX3_wrongAt [.ref (c + 9), .int (nI n), .int (nI t)] (z, h, S, L) 0 0 (fun r X => r = some (.ref (c + 1)) ∧ ∃ S', X = (z, h, S', L) ∧ pFs c S S' ∧ (∀ j, S' (c + 9) j = S (c + 9) j) ∧ cE c S' (n, tkP A t)) (fun _ _ => False) := by
  have hB := hX.1
  have hN := hX.n
  obtain ⟨e6, e6b⟩ := hX.pl ht
  have base : ∀ l' E', zM l' E' 0 YX1_of [.ref (c + 1), .int (nI n), .int (nI (tkP A t))] (z, h, S, L) 0 0 (fun r X => r = some (.ref (c + 1)) ∧ X = (z, h, zu (zu S (c + 1) 6 (nI n)) (c + 1) 7 (nI (tkP A t)), L)) (fun _ _ => False) := by
    intro l' E'
    refine zM.go rfl rfl (Nat.le_of_ble_eq_true rfl) (ls := [some (.ref (c + 1)), some (.int (nI n)), some (.int (nI (tkP A t)))]) rfl ?_
    intro V hVl hVE hVd hVc hVs hVQ hVX
    refine sX1_of_0 _ _ _ _ _ ?_
    simp (disch := omega) only [oAld, oIld, oPI, oRA, hB.fk, List.getElem?_cons_zero, List.getElem?_cons_succ, List.set_cons_zero, List.set_cons_succ, List.drop_succ_cons, List.drop_zero, List.take_succ_cons, List.take_zero, List.length_cons, List.length_nil, List.reverse_cons, List.reverse_nil, List.nil_append, List.cons_append, Option.toList_some, Option.toList_none, va_rf_s, true_and, and_true, true_implies, false_implies, not_true_eq_false, not_false_eq_true, Nat.reduceAdd, Nat.reduceLeDiff, Nat.le_add_left, Nat.zero_le, Nat.le_refl, znew, true_or, or_true, b01_t, b01_f, b01_ok, bool_ft, vp_b01, vp_b0, vp_b1, b01_eq0, b01_eq1, implies_true, nI_add, nI_clamp, zi_in, zi_le_t, zi_le_f, zi_lt_t, zi_lt_f, zi_eq_t, zi_eq_f, nI_leI, nI_ltI, nI_eq, z_in, pk_mul, zu_same, zu_rw, zu_ix, zi_ne0, zi_sub, zi_m1, Nat.add_sub_cancel, Nat.reduceMul, Nat.reduceSub]
    exact hVQ _ _ ⟨rfl, rfl⟩
  refine zM.go rfl rfl (Nat.le_of_ble_eq_true rfl) (ls := [some (.ref (c + 9)), some (.int (nI n)), some (.int (nI t))]) rfl ?_
  intro V hVl hVE hVd hVc hVs hVQ hVX
  refine sX3_wrongAt_0 _ _ _ _ _ ?_
  simp (disch := omega) only [oAld, oAld1, oCV, oGR, oIld, hB.pk, hB.pr1, hB.pr0, hB.tk, hB.tr4, hB.tt4, hB.tn4, hB.fk, e6, List.getElem?_cons_zero, List.getElem?_cons_succ, List.set_cons_zero, List.set_cons_succ, List.drop_succ_cons, List.drop_zero, List.take_succ_cons, List.take_zero, List.length_cons, List.length_nil, List.reverse_cons, List.reverse_nil, List.nil_append, List.cons_append, Option.toList_some, Option.toList_none, va_rf_s, true_and, and_true, true_implies, false_implies, not_true_eq_false, not_false_eq_true, Nat.reduceAdd, Nat.reduceLeDiff, Nat.le_add_left, Nat.zero_le, Nat.le_refl, znew, true_or, or_true, b01_t, b01_f, b01_ok, bool_ft, vp_b01, vp_b0, vp_b1, b01_eq0, b01_eq1, implies_true, nI_add, nI_clamp, zi_in, zi_le_t, zi_le_f, zi_lt_t, zi_lt_f, zi_eq_t, zi_eq_f, nI_leI, nI_ltI, nI_eq, z_in, pk_mul, zu_same, zu_rw, zu_ix, zi_ne0, zi_sub, zi_m1, Nat.add_sub_cancel, Nat.reduceMul, Nat.reduceSub]
  refine zC.of0 (base _ _) (by omega) (Nat.zero_le _) (Nat.zero_le _) ?_
  rintro _ _ ⟨rfl, rfl⟩
  refine sX3_wrongAt_17 _ _ _ _ _ ?_
  simp (disch := omega) only [oRA, List.getElem?_cons_zero, List.getElem?_cons_succ, List.set_cons_zero, List.set_cons_succ, List.drop_succ_cons, List.drop_zero, List.take_succ_cons, List.take_zero, List.length_cons, List.length_nil, List.reverse_cons, List.reverse_nil, List.nil_append, List.cons_append, Option.toList_some, Option.toList_none, va_rf_s, true_and, and_true, true_implies, false_implies, not_true_eq_false, not_false_eq_true, Nat.reduceAdd, Nat.reduceLeDiff, Nat.le_add_left, Nat.zero_le, Nat.le_refl, znew, true_or, or_true, b01_t, b01_f, b01_ok, bool_ft, vp_b01, vp_b0, vp_b1, b01_eq0, b01_eq1, implies_true, nI_add, nI_clamp, zi_in, zi_le_t, zi_le_f, zi_lt_t, zi_lt_f, zi_eq_t, zi_eq_f, nI_leI, nI_ltI, nI_eq, z_in, pk_mul, zu_same, zu_rw, zu_ix, zi_ne0, zi_sub, zi_m1, Nat.add_sub_cancel, Nat.reduceMul, Nat.reduceSub]
  refine hVQ _ _ ⟨rfl, _, rfl, fun a h1 h2 => by rw [zu_rw _ _ h2, zu_rw _ _ h2], fun j => by rw [zu_rw _ _ (by omega), zu_rw _ _ (by omega)], ?_, zu_same _ _ _ _, hn.1, hn.2, e6b⟩
  rw [zu_ix _ _ (by omega), zu_same]
theorem zX3_wrong (hX : pX c z h S P A N) (hI : pI c S N q o) {n : Nat} (hn : 1 ≤ n ∧ n ≤ 5) : zM l E 2 YX3_wrong [.ref (c + 9), .int (nI n)] (z, h, S, L) 0 0 (fun r X => r = some (.ref (c + 1)) ∧ ∃ S', X = (z, h, S', L) ∧ pFs c S S' ∧ cE c S' (n, tkP A q.1)) (fun _ _ => False) := by
  have hB := hX.1
  have e3 := hI.1
  refine zM.go rfl rfl (Nat.le_of_ble_eq_true rfl) (ls := [some (.ref (c + 9)), some (.int (nI n))]) rfl ?_
  intro V hVl hVE hVd hVc hVs hVQ hVX
  refine sX3_wrong_0 _ _ _ _ _ ?_
  simp (disch := omega) only [oAld, oCV, oGI, oIld, hB.pk, e3, List.getElem?_cons_zero, List.getElem?_cons_succ, List.set_cons_zero, List.set_cons_succ, List.drop_succ_cons, List.drop_zero, List.take_succ_cons, List.take_zero, List.length_cons, List.length_nil, List.reverse_cons, List.reverse_nil, List.nil_append, List.cons_append, Option.toList_some, Option.toList_none, va_rf_s, true_and, and_true, true_implies, false_implies, not_true_eq_false, not_false_eq_true, Nat.reduceAdd, Nat.reduceLeDiff, Nat.le_add_left, Nat.zero_le, Nat.le_refl, znew, true_or, or_true, b01_t, b01_f, b01_ok, bool_ft, vp_b01, vp_b0, vp_b1, b01_eq0, b01_eq1, implies_true, nI_add, nI_clamp, zi_in, zi_le_t, zi_le_f, zi_lt_t, zi_lt_f, zi_eq_t, zi_eq_f, nI_leI, nI_ltI, nI_eq, z_in, pk_mul, zu_same, zu_rw, zu_ix, zi_ne0, zi_sub, zi_m1, Nat.add_sub_cancel, Nat.reduceMul, Nat.reduceSub]
  refine zC.of0 (zX3_wrongAt hX hI.2.2.2.2.1.2 hn) (by omega) (Nat.zero_le _) (Nat.zero_le _) ?_
  rintro _ _ ⟨rfl, S', rfl, f1, -, f2⟩
  refine sX3_wrong_9 _ _ _ _ _ ?_
  simp (disch := omega) only [oRA, List.getElem?_cons_zero, List.getElem?_cons_succ, List.set_cons_zero, List.set_cons_succ, List.drop_succ_cons, List.drop_zero, List.take_succ_cons, List.take_zero, List.length_cons, List.length_nil, List.reverse_cons, List.reverse_nil, List.nil_append, List.cons_append, Option.toList_some, Option.toList_none, va_rf_s, true_and, and_true, true_implies, false_implies, not_true_eq_false, not_false_eq_true, Nat.reduceAdd, Nat.reduceLeDiff, Nat.le_add_left, Nat.zero_le, Nat.le_refl, znew, true_or, or_true, b01_t, b01_f, b01_ok, bool_ft, vp_b01, vp_b0, vp_b1, b01_eq0, b01_eq1, implies_true, nI_add, nI_clamp, zi_in, zi_le_t, zi_le_f, zi_lt_t, zi_lt_f, zi_eq_t, zi_eq_f, nI_leI, nI_ltI, nI_eq, z_in, pk_mul, zu_same, zu_rw, zu_ix, zi_ne0, zi_sub, zi_m1, Nat.add_sub_cancel, Nat.reduceMul, Nat.reduceSub]
  exact hVQ _ _ ⟨rfl, S', rfl, f1, f2⟩
theorem zX3_tell (hB : isC h c) (hI : pI c S N q o) {n t : Nat} (hn : 1 ≤ n ∧ n ≤ 5) (ht : t < N) : zM l E 0 YX3_tell [.ref (c + 9), .int (nI n), .int (nI t)] (z, h, S, L) 0 0 (fun r X => r = none ∧ ∃ S', X = (z, h, S', L) ∧ pFs c S S' ∧ pI c S' N (q.1, pTell n t q.2) o) (fun _ _ => False) := by
  obtain ⟨i3, i4, i5, i6, i7, i8, ⟨i9, i9n⟩, i10⟩ := hI
  refine zM.go rfl rfl (Nat.le_of_ble_eq_true rfl) (ls := [some (.ref (c + 9)), some (.int (nI n)), some (.int (nI t))]) rfl ?_
  intro V hVl hVE hVd hVc hVs hVQ hVX
  obtain ⟨at', w, wt⟩ := q
  simp only [] at i3 i5 i6 i7 i8 i9 hVQ ⊢
  have keep : pTell n t (w, wt) = (w, wt) → V.2.2.2.2.2.1 none (z, h, S, L) := fun e => by
    rw [e] at hVQ
    exact hVQ _ _ ⟨rfl, S, rfl, pFs.rf, i3, i4, i5, i6, i7, i8, ⟨i9, i9n⟩, i10⟩
  have put : pTell n t (w, wt) = (n, t) → V.2.2.2.2.2.1 none (z, h, zu (zu S (c + 9) 5 (nI n)) (c + 9) 6 (nI t), L) := fun e => by
    rw [e] at hVQ
    refine hVQ _ _ ⟨rfl, _, rfl, fun a h1 h2 => by rw [zu_rw _ _ h1, zu_rw _ _ h1], ?_, ?_, ?_, fun _ => zu_same _ _ _ _, i7, hn.2, ⟨ht, i9n⟩, i10⟩
    · rw [zu_ix _ _ (by omega), zu_ix _ _ (by omega)]; exact i3
    · rw [zu_ix _ _ (by omega), zu_ix _ _ (by omega)]; exact i4
    · rw [zu_ix _ _ (by omega), zu_same]
  by_cases h0 : w = 0
  · subst h0
    refine sX3_tell_0 _ _ _ _ _ ?_
    simp (disch := omega) only [oAld, oGI, oIf, oIfc, oIld, oPI, oRV, hB.pk, i5, List.getElem?_cons_zero, List.getElem?_cons_succ, List.set_cons_zero, List.set_cons_succ, List.drop_succ_cons, List.drop_zero, List.take_succ_cons, List.take_zero, List.length_cons, List.length_nil, List.reverse_cons, List.reverse_nil, List.nil_append, List.cons_append, Option.toList_some, Option.toList_none, va_rf_s, true_and, and_true, true_implies, false_implies, not_true_eq_false, not_false_eq_true, Nat.reduceAdd, Nat.reduceLeDiff, Nat.le_add_left, Nat.zero_le, Nat.le_refl, znew, true_or, or_true, b01_t, b01_f, b01_ok, bool_ft, vp_b01, vp_b0, vp_b1, b01_eq0, b01_eq1, implies_true, nI_add, nI_clamp, zi_in, zi_le_t, zi_le_f, zi_lt_t, zi_lt_f, zi_eq_t, zi_eq_f, nI_leI, nI_ltI, nI_eq, z_in, pk_mul, zu_same, zu_rw, zu_ix, zi_ne0, zi_sub, zi_m1, Nat.add_sub_cancel, Nat.reduceMul, Nat.reduceSub]
    exact put (by unfold pTell; rw [if_neg (fun q => q.1 rfl)])
  · have i6' := i6 h0
    by_cases h1 : wt < t
    · refine sX3_tell_0 _ _ _ _ _ ?_
      simp (disch := omega) only [oAld, oGI, oIf, oIfc, oIld, oPI, oRV, hB.pk, i5, i6', List.getElem?_cons_zero, List.getElem?_cons_succ, List.set_cons_zero, List.set_cons_succ, List.drop_succ_cons, List.drop_zero, List.take_succ_cons, List.take_zero, List.length_cons, List.length_nil, List.reverse_cons, List.reverse_nil, List.nil_append, List.cons_append, Option.toList_some, Option.toList_none, va_rf_s, true_and, and_true, true_implies, false_implies, not_true_eq_false, not_false_eq_true, Nat.reduceAdd, Nat.reduceLeDiff, Nat.le_add_left, Nat.zero_le, Nat.le_refl, znew, true_or, or_true, b01_t, b01_f, b01_ok, bool_ft, vp_b01, vp_b0, vp_b1, b01_eq0, b01_eq1, implies_true, nI_add, nI_clamp, zi_in, zi_le_t, zi_le_f, zi_lt_t, zi_lt_f, zi_eq_t, zi_eq_f, nI_leI, nI_ltI, nI_eq, z_in, pk_mul, zu_same, zu_rw, zu_ix, zi_ne0, zi_sub, zi_m1, Nat.add_sub_cancel, Nat.reduceMul, Nat.reduceSub]
      exact keep (by unfold pTell; rw [if_pos ⟨h0, Or.inl h1⟩])
    · by_cases h2 : t = wt
      · subst h2
        by_cases h3 : w ≤ n
        · refine sX3_tell_0 _ _ _ _ _ ?_
          simp (disch := omega) only [oAld, oGI, oIf, oIfc, oIld, oPI, oRV, hB.pk, i5, i6', List.getElem?_cons_zero, List.getElem?_cons_succ, List.set_cons_zero, List.set_cons_succ, List.drop_succ_cons, List.drop_zero, List.take_succ_cons, List.take_zero, List.length_cons, List.length_nil, List.reverse_cons, List.reverse_nil, List.nil_append, List.cons_append, Option.toList_some, Option.toList_none, va_rf_s, true_and, and_true, true_implies, false_implies, not_true_eq_false, not_false_eq_true, Nat.reduceAdd, Nat.reduceLeDiff, Nat.le_add_left, Nat.zero_le, Nat.le_refl, znew, true_or, or_true, b01_t, b01_f, b01_ok, bool_ft, vp_b01, vp_b0, vp_b1, b01_eq0, b01_eq1, implies_true, nI_add, nI_clamp, zi_in, zi_le_t, zi_le_f, zi_lt_t, zi_lt_f, zi_eq_t, zi_eq_f, nI_leI, nI_ltI, nI_eq, z_in, pk_mul, zu_same, zu_rw, zu_ix, zi_ne0, zi_sub, zi_m1, Nat.add_sub_cancel, Nat.reduceMul, Nat.reduceSub]
          exact keep (by unfold pTell; rw [if_pos ⟨h0, Or.inr ⟨rfl, h3⟩⟩])
        · refine sX3_tell_0 _ _ _ _ _ ?_
          simp (disch := omega) only [oAld, oGI, oIf, oIfc, oIld, oPI, oRV, hB.pk, i5, i6', List.getElem?_cons_zero, List.getElem?_cons_succ, List.set_cons_zero, List.set_cons_succ, List.drop_succ_cons, List.drop_zero, List.take_succ_cons, List.take_zero, List.length_cons, List.length_nil, List.reverse_cons, List.reverse_nil, List.nil_append, List.cons_append, Option.toList_some, Option.toList_none, va_rf_s, true_and, and_true, true_implies, false_implies, not_true_eq_false, not_false_eq_true, Nat.reduceAdd, Nat.reduceLeDiff, Nat.le_add_left, Nat.zero_le, Nat.le_refl, znew, true_or, or_true, b01_t, b01_f, b01_ok, bool_ft, vp_b01, vp_b0, vp_b1, b01_eq0, b01_eq1, implies_true, nI_add, nI_clamp, zi_in, zi_le_t, zi_le_f, zi_lt_t, zi_lt_f, zi_eq_t, zi_eq_f, nI_leI, nI_ltI, nI_eq, z_in, pk_mul, zu_same, zu_rw, zu_ix, zi_ne0, zi_sub, zi_m1, Nat.add_sub_cancel, Nat.reduceMul, Nat.reduceSub]
          exact put (by unfold pTell; rw [if_neg (fun q => by have := q.2; simp only [] at this; omega)])
      · refine sX3_tell_0 _ _ _ _ _ ?_
        simp (disch := omega) only [oAld, oGI, oIf, oIfc, oIld, oPI, oRV, hB.pk, i5, i6', List.getElem?_cons_zero, List.getElem?_cons_succ, List.set_cons_zero, List.set_cons_succ, List.drop_succ_cons, List.drop_zero, List.take_succ_cons, List.take_zero, List.length_cons, List.length_nil, List.reverse_cons, List.reverse_nil, List.nil_append, List.cons_append, Option.toList_some, Option.toList_none, va_rf_s, true_and, and_true, true_implies, false_implies, not_true_eq_false, not_false_eq_true, Nat.reduceAdd, Nat.reduceLeDiff, Nat.le_add_left, Nat.zero_le, Nat.le_refl, znew, true_or, or_true, b01_t, b01_f, b01_ok, bool_ft, vp_b01, vp_b0, vp_b1, b01_eq0, b01_eq1, implies_true, nI_add, nI_clamp, zi_in, zi_le_t, zi_le_f, zi_lt_t, zi_lt_f, zi_eq_t, zi_eq_f, nI_leI, nI_ltI, nI_eq, z_in, pk_mul, zu_same, zu_rw, zu_ix, zi_ne0, zi_sub, zi_m1, Nat.add_sub_cancel, Nat.reduceMul, Nat.reduceSub]
        exact put (by unfold pTell; rw [if_neg (fun q => by have := q.2; simp only [] at this; omega)])
theorem soK_5 {k : Nat} : soK k = 5 ↔ k = 3 := by
  unfold soK
  refine ⟨fun q => ?_, fun q => by rw [q]; rfl⟩
  split at q
  · omega
  · split at q
    · assumption
    · split at q
      · omega
      · split at q
        · omega
        · split at q <;> omega
theorem zX3_sort (hX : pX c z h S P A N) (hI : pI c S N q o) : zM l E 3 YX3_sort [.ref (c + 9)] (z, h, S, L) 0 0 (fun r X => tkK A q.1 ≠ 3 ∧ r = some (.int (nI (soK (tkK A q.1)))) ∧ X = (z, h, S, L)) (fun a X => tkK A q.1 = 3 ∧ pEr z h L c S (pErr (α := zCu) A 1 q.1) a X) := by
  have hB := hX.1
  have e3 := hI.1
  have hN := hX.n
  have hq := hI.2.2.2.2.1.2
  have e5 := hX.so hq
  have hb := soK_b (tkK A q.1)
  refine zM.go rfl rfl (Nat.le_of_ble_eq_true rfl) (ls := [some (.ref (c + 9))]) rfl ?_
  intro V hVl hVE hVd hVc hVs hVQ hVX
  by_cases h5 : soK (tkK A q.1) = 5
  · rw [h5] at e5
    refine sX3_sort_0 _ _ _ _ _ ?_
    simp (disch := omega) only [oAld, oAld1, oCV, oGI, oGR, oIfc, oPush, oRI, hB.pk, hB.pr0, hB.tk, hB.tr3, hB.tt3, hB.tn3, e3, e5, List.getElem?_cons_zero, List.getElem?_cons_succ, List.set_cons_zero, List.set_cons_succ, List.drop_succ_cons, List.drop_zero, List.take_succ_cons, List.take_zero, List.length_cons, List.length_nil, List.reverse_cons, List.reverse_nil, List.nil_append, List.cons_append, Option.toList_some, Option.toList_none, va_rf_s, true_and, and_true, true_implies, false_implies, not_true_eq_false, not_false_eq_true, Nat.reduceAdd, Nat.reduceLeDiff, Nat.le_add_left, Nat.zero_le, Nat.le_refl, znew, true_or, or_true, b01_t, b01_f, b01_ok, bool_ft, vp_b01, vp_b0, vp_b1, b01_eq0, b01_eq1, implies_true, nI_add, nI_clamp, zi_in, zi_le_t, zi_le_f, zi_lt_t, zi_lt_f, zi_eq_t, zi_eq_f, nI_leI, nI_ltI, nI_eq, z_in, pk_mul, zu_same, zu_rw, zu_ix, zi_ne0, zi_sub, zi_m1, Nat.add_sub_cancel, Nat.reduceMul, Nat.reduceSub]
    refine zC.of0 (zX3_wrong hX hI (by omega)) (by omega) (Nat.zero_le _) (Nat.zero_le _) ?_
    rintro _ _ ⟨rfl, S', rfl, f1, f2⟩
    refine sX3_sort_21 _ _ _ _ _ ?_
    simp (disch := omega) only [oThrow, zOut, hB.fk, List.getElem?_cons_zero, List.getElem?_cons_succ, List.set_cons_zero, List.set_cons_succ, List.drop_succ_cons, List.drop_zero, List.take_succ_cons, List.take_zero, List.length_cons, List.length_nil, List.reverse_cons, List.reverse_nil, List.nil_append, List.cons_append, Option.toList_some, Option.toList_none, va_rf_s, true_and, and_true, true_implies, false_implies, not_true_eq_false, not_false_eq_true, Nat.reduceAdd, Nat.reduceLeDiff, Nat.le_add_left, Nat.zero_le, Nat.le_refl, znew, true_or, or_true, b01_t, b01_f, b01_ok, bool_ft, vp_b01, vp_b0, vp_b1, b01_eq0, b01_eq1, implies_true, nI_add, nI_clamp, zi_in, zi_le_t, zi_le_f, zi_lt_t, zi_lt_f, zi_eq_t, zi_eq_f, nI_leI, nI_ltI, nI_eq, z_in, pk_mul, zu_same, zu_rw, zu_ix, zi_ne0, zi_sub, zi_m1, Nat.add_sub_cancel, Nat.reduceMul, Nat.reduceSub]
    exact hVX _ _ ⟨soK_5.mp h5, _, S', rfl, rfl, rfl, f1, f2⟩
  · have h5' : (nI (soK (tkK A q.1)) = nI 5) = False := eq_false (fun e => h5 (by rw [nI_eq (by omega) (by omega)] at e; exact e))
    refine sX3_sort_0 _ _ _ _ _ ?_
    simp (disch := omega) only [oAld, oAld1, oCV, oGI, oGR, oIfc, oPush, oRI, hB.pk, hB.pr0, hB.tk, hB.tr3, hB.tt3, hB.tn3, e3, e5, h5', List.getElem?_cons_zero, List.getElem?_cons_succ, List.set_cons_zero, List.set_cons_succ, List.drop_succ_cons, List.drop_zero, List.take_succ_cons, List.take_zero, List.length_cons, List.length_nil, List.reverse_cons, List.reverse_nil, List.nil_append, List.cons_append, Option.toList_some, Option.toList_none, va_rf_s, true_and, and_true, true_implies, false_implies, not_true_eq_false, not_false_eq_true, Nat.reduceAdd, Nat.reduceLeDiff, Nat.le_add_left, Nat.zero_le, Nat.le_refl, znew, true_or, or_true, b01_t, b01_f, b01_ok, bool_ft, vp_b01, vp_b0, vp_b1, b01_eq0, b01_eq1, implies_true, nI_add, nI_clamp, zi_in, zi_le_t, zi_le_f, zi_lt_t, zi_lt_f, zi_eq_t, zi_eq_f, nI_leI, nI_ltI, nI_eq, z_in, pk_mul, zu_same, zu_rw, zu_ix, zi_ne0, zi_sub, zi_m1, Nat.add_sub_cancel, Nat.reduceMul, Nat.reduceSub]
    exact hVQ _ _ ⟨fun e => h5 (soK_5.mpr e), rfl, rfl⟩
theorem zX3_pass (hX : pX c z h S P A N) (hI : pI c S N q o) (hnx : q.1 + 1 < N) : zM l E 3 YX3_pass [.ref (c + 9)] (z, h, S, L) 0 0 (pOk z h L c S N o (pGo A q)) (pEr z h L c S (pGo A q)) := by
  have hB := hX.1
  obtain ⟨i3, i4, i5, i6, i7, i8, i9, i10⟩ := id hI
  refine zM.go rfl rfl (Nat.le_of_ble_eq_true rfl) (ls := [some (.ref (c + 9))]) rfl ?_
  intro V hVl hVE hVd hVc hVs hVQ hVX
  by_cases h4 : q.1 = 400
  · rw [h4] at i3
    refine sX3_pass_0 _ _ _ _ _ ?_
    simp (disch := omega) only [oAld, oBin, oCV, oDup, oGI, oIfc, oPI, oPush, oRV, hB.pk, i3, List.getElem?_cons_zero, List.getElem?_cons_succ, List.set_cons_zero, List.set_cons_succ, List.drop_succ_cons, List.drop_zero, List.take_succ_cons, List.take_zero, List.length_cons, List.length_nil, List.reverse_cons, List.reverse_nil, List.nil_append, List.cons_append, Option.toList_some, Option.toList_none, va_rf_s, true_and, and_true, true_implies, false_implies, not_true_eq_false, not_false_eq_true, Nat.reduceAdd, Nat.reduceLeDiff, Nat.le_add_left, Nat.zero_le, Nat.le_refl, znew, true_or, or_true, b01_t, b01_f, b01_ok, bool_ft, vp_b01, vp_b0, vp_b1, b01_eq0, b01_eq1, implies_true, nI_add, nI_clamp, zi_in, zi_le_t, zi_le_f, zi_lt_t, zi_lt_f, zi_eq_t, zi_eq_f, nI_leI, nI_ltI, nI_eq, z_in, pk_mul, zu_same, zu_rw, zu_ix, zi_ne0, zi_sub, zi_m1, Nat.add_sub_cancel, Nat.reduceMul, Nat.reduceSub]
    refine zC.of0 (zX3_wrong hX hI (by omega)) (by omega) (Nat.zero_le _) (Nat.zero_le _) ?_
    rintro _ _ ⟨rfl, S', rfl, f1, f2⟩
    refine sX3_pass_15 _ _ _ _ _ ?_
    simp (disch := omega) only [oThrow, zOut, hB.fk, List.getElem?_cons_zero, List.getElem?_cons_succ, List.set_cons_zero, List.set_cons_succ, List.drop_succ_cons, List.drop_zero, List.take_succ_cons, List.take_zero, List.length_cons, List.length_nil, List.reverse_cons, List.reverse_nil, List.nil_append, List.cons_append, Option.toList_some, Option.toList_none, va_rf_s, true_and, and_true, true_implies, false_implies, not_true_eq_false, not_false_eq_true, Nat.reduceAdd, Nat.reduceLeDiff, Nat.le_add_left, Nat.zero_le, Nat.le_refl, znew, true_or, or_true, b01_t, b01_f, b01_ok, bool_ft, vp_b01, vp_b0, vp_b1, b01_eq0, b01_eq1, implies_true, nI_add, nI_clamp, zi_in, zi_le_t, zi_le_f, zi_lt_t, zi_lt_f, zi_eq_t, zi_eq_f, nI_leI, nI_ltI, nI_eq, z_in, pk_mul, zu_same, zu_rw, zu_ix, zi_ne0, zi_sub, zi_m1, Nat.add_sub_cancel, Nat.reduceMul, Nat.reduceSub]
    exact hVX _ _ ⟨_, S', by unfold pGo; rw [if_pos h4]; rfl, rfl, rfl, f1, f2⟩
  · refine sX3_pass_0 _ _ _ _ _ ?_
    simp (disch := omega) only [oAld, oBin, oCV, oDup, oGI, oIfc, oPI, oPush, oRV, hB.pk, i3, List.getElem?_cons_zero, List.getElem?_cons_succ, List.set_cons_zero, List.set_cons_succ, List.drop_succ_cons, List.drop_zero, List.take_succ_cons, List.take_zero, List.length_cons, List.length_nil, List.reverse_cons, List.reverse_nil, List.nil_append, List.cons_append, Option.toList_some, Option.toList_none, va_rf_s, true_and, and_true, true_implies, false_implies, not_true_eq_false, not_false_eq_true, Nat.reduceAdd, Nat.reduceLeDiff, Nat.le_add_left, Nat.zero_le, Nat.le_refl, znew, true_or, or_true, b01_t, b01_f, b01_ok, bool_ft, vp_b01, vp_b0, vp_b1, b01_eq0, b01_eq1, implies_true, nI_add, nI_clamp, zi_in, zi_le_t, zi_le_f, zi_lt_t, zi_lt_f, zi_eq_t, zi_eq_f, nI_leI, nI_ltI, nI_eq, z_in, pk_mul, zu_same, zu_rw, zu_ix, zi_ne0, zi_sub, zi_m1, Nat.add_sub_cancel, Nat.reduceMul, Nat.reduceSub]
    refine hVQ _ _ ⟨rfl, (q.1 + 1, q.2), _, by unfold pGo; rw [if_neg h4], rfl, fun a h1 h2 => zu_rw _ _ h1, zu_same _ _ _ _, ?_, ?_, fun h0 => ?_, ⟨by show q.1 + 1 ≤ 400; omega, hnx⟩, i8, i9, i10⟩
    · rw [zu_ix _ _ (by omega)]; exact i4
    · rw [zu_ix _ _ (by omega)]; exact i5
    · rw [zu_ix _ _ (by omega)]; exact i6 h0
def sgB (k : Nat) : Bool := decide (4 ≤ k ∧ k ≤ 15) && !(decide (k = 11) || decide (k = 12) || decide (k = 14))
theorem sgI_inj0 : ∀ i, i < 16 → ∀ j, j < 16 → (sgB i && sgB j && decide (sgI i = sgI j)) = true → i = j := by decide +kernel
theorem sgB_t {k : Nat} (h : 4 ≤ k ∧ k ≤ 15 ∧ k ≠ 11 ∧ k ≠ 12 ∧ k ≠ 14) : sgB k = true := by
  obtain ⟨h1, h2, h3, h4, h5⟩ := h
  unfold sgB
  rw [decide_eq_true ⟨h1, h2⟩, decide_eq_false h3, decide_eq_false h4, decide_eq_false h5]; rfl
theorem sgI_inj (i : Nat) (hi : i < 16) (j : Nat) (hj : j < 16) (h1 : 4 ≤ i ∧ i ≤ 15 ∧ i ≠ 11 ∧ i ≠ 12 ∧ i ≠ 14) (h2 : 4 ≤ j ∧ j ≤ 15 ∧ j ≠ 11 ∧ j ≠ 12 ∧ j ≠ 14) (h : sgI i = sgI j) : i = j :=
  sgI_inj0 i hi j hj (by rw [sgB_t h1, sgB_t h2, decide_eq_true h]; rfl)
theorem sgI_b (k : Nat) : sgI k < 128 := by
  unfold sgI
  (repeat' split) <;> omega
theorem zX3_isSign (hX : pX c z h S P A N) (hI : pI c S N q o) {k : Nat} (hk : isSg k) : zM l E 0 YX3_isSign [.ref (c + 9), .int (nI (sgI k))] (z, h, S, L) 0 0 (fun r X => r = some (.int (b01 (decide (tkK A q.1 = k)))) ∧ X = (z, h, S, L)) (fun _ _ => False) := by
  have hB := hX.1
  have e3 := hI.1
  have hN := hX.n
  have hq := hI.2.2.2.2.1.2
  have ht := hX.tk hq
  have hkb := sgI_b k
  have e5 := hX.so hq
  refine zM.go rfl rfl (Nat.le_of_ble_eq_true rfl) (ls := [some (.ref (c + 9)), some (.int (nI (sgI k)))]) rfl ?_
  intro V hVl hVE hVd hVc hVs hVQ hVX
  have hkk : (A.getD q.1 tk0).1 = tkK A q.1 := rfl
  rcases ht.2 with ⟨e, -⟩ | ⟨e, -⟩ | ⟨e, -, -⟩ | ⟨e, -, -⟩ | ⟨⟨e, e2⟩, -, -⟩ | ⟨e1, -, e8⟩
  · rw [hkk] at e
    rw [e] at e5
    rw [show soK 0 = 4 from rfl] at e5
    refine sX3_isSign_0 _ _ _ _ _ ?_
    simp (disch := omega) only [oAld, oAld1, oGI, oGR, oIfc, oIld, oNop, oPush, oRZ, hB.pk, hB.pr0, hB.tk, hB.tr3, hB.tt3, hB.tn3, hB.tr6, hB.tt6, hB.tn6, e3, e5, List.getElem?_cons_zero, List.getElem?_cons_succ, List.set_cons_zero, List.set_cons_succ, List.drop_succ_cons, List.drop_zero, List.take_succ_cons, List.take_zero, List.length_cons, List.length_nil, List.reverse_cons, List.reverse_nil, List.nil_append, List.cons_append, Option.toList_some, Option.toList_none, va_rf_s, true_and, and_true, true_implies, false_implies, not_true_eq_false, not_false_eq_true, Nat.reduceAdd, Nat.reduceLeDiff, Nat.le_add_left, Nat.zero_le, Nat.le_refl, znew, true_or, or_true, b01_t, b01_f, b01_ok, bool_ft, vp_b01, vp_b0, vp_b1, b01_eq0, b01_eq1, implies_true, nI_add, nI_clamp, zi_in, zi_le_t, zi_le_f, zi_lt_t, zi_lt_f, zi_eq_t, zi_eq_f, nI_leI, nI_ltI, nI_eq, z_in, pk_mul, zu_same, zu_rw, zu_ix, zi_ne0, zi_sub, zi_m1, Nat.add_sub_cancel, Nat.reduceMul, Nat.reduceSub]
    exact hVQ _ _ ⟨by rw [e, decide_eq_false (fun x => by unfold isSg at hk; omega)]; rfl, rfl⟩
  · rw [hkk] at e
    rw [e] at e5
    rw [show soK 3 = 5 from rfl] at e5
    refine sX3_isSign_0 _ _ _ _ _ ?_
    simp (disch := omega) only [oAld, oAld1, oGI, oGR, oIfc, oIld, oNop, oPush, oRZ, hB.pk, hB.pr0, hB.tk, hB.tr3, hB.tt3, hB.tn3, hB.tr6, hB.tt6, hB.tn6, e3, e5, List.getElem?_cons_zero, List.getElem?_cons_succ, List.set_cons_zero, List.set_cons_succ, List.drop_succ_cons, List.drop_zero, List.take_succ_cons, List.take_zero, List.length_cons, List.length_nil, List.reverse_cons, List.reverse_nil, List.nil_append, List.cons_append, Option.toList_some, Option.toList_none, va_rf_s, true_and, and_true, true_implies, false_implies, not_true_eq_false, not_false_eq_true, Nat.reduceAdd, Nat.reduceLeDiff, Nat.le_add_left, Nat.zero_le, Nat.le_refl, znew, true_or, or_true, b01_t, b01_f, b01_ok, bool_ft, vp_b01, vp_b0, vp_b1, b01_eq0, b01_eq1, implies_true, nI_add, nI_clamp, zi_in, zi_le_t, zi_le_f, zi_lt_t, zi_lt_f, zi_eq_t, zi_eq_f, nI_leI, nI_ltI, nI_eq, z_in, pk_mul, zu_same, zu_rw, zu_ix, zi_ne0, zi_sub, zi_m1, Nat.add_sub_cancel, Nat.reduceMul, Nat.reduceSub]
    exact hVQ _ _ ⟨by rw [e, decide_eq_false (fun x => by unfold isSg at hk; omega)]; rfl, rfl⟩
  · rw [hkk] at e
    rw [e] at e5
    rw [show soK 1 = 0 from rfl] at e5
    refine sX3_isSign_0 _ _ _ _ _ ?_
    simp (disch := omega) only [oAld, oAld1, oGI, oGR, oIfc, oIld, oNop, oPush, oRZ, hB.pk, hB.pr0, hB.tk, hB.tr3, hB.tt3, hB.tn3, hB.tr6, hB.tt6, hB.tn6, e3, e5, List.getElem?_cons_zero, List.getElem?_cons_succ, List.set_cons_zero, List.set_cons_succ, List.drop_succ_cons, List.drop_zero, List.take_succ_cons, List.take_zero, List.length_cons, List.length_nil, List.reverse_cons, List.reverse_nil, List.nil_append, List.cons_append, Option.toList_some, Option.toList_none, va_rf_s, true_and, and_true, true_implies, false_implies, not_true_eq_false, not_false_eq_true, Nat.reduceAdd, Nat.reduceLeDiff, Nat.le_add_left, Nat.zero_le, Nat.le_refl, znew, true_or, or_true, b01_t, b01_f, b01_ok, bool_ft, vp_b01, vp_b0, vp_b1, b01_eq0, b01_eq1, implies_true, nI_add, nI_clamp, zi_in, zi_le_t, zi_le_f, zi_lt_t, zi_lt_f, zi_eq_t, zi_eq_f, nI_leI, nI_ltI, nI_eq, z_in, pk_mul, zu_same, zu_rw, zu_ix, zi_ne0, zi_sub, zi_m1, Nat.add_sub_cancel, Nat.reduceMul, Nat.reduceSub]
    exact hVQ _ _ ⟨by rw [e, decide_eq_false (fun x => by unfold isSg at hk; omega)]; rfl, rfl⟩
  · rw [hkk] at e
    rw [e] at e5
    rw [show soK 2 = 1 from rfl] at e5
    refine sX3_isSign_0 _ _ _ _ _ ?_
    simp (disch := omega) only [oAld, oAld1, oGI, oGR, oIfc, oIld, oNop, oPush, oRZ, hB.pk, hB.pr0, hB.tk, hB.tr3, hB.tt3, hB.tn3, hB.tr6, hB.tt6, hB.tn6, e3, e5, List.getElem?_cons_zero, List.getElem?_cons_succ, List.set_cons_zero, List.set_cons_succ, List.drop_succ_cons, List.drop_zero, List.take_succ_cons, List.take_zero, List.length_cons, List.length_nil, List.reverse_cons, List.reverse_nil, List.nil_append, List.cons_append, Option.toList_some, Option.toList_none, va_rf_s, true_and, and_true, true_implies, false_implies, not_true_eq_false, not_false_eq_true, Nat.reduceAdd, Nat.reduceLeDiff, Nat.le_add_left, Nat.zero_le, Nat.le_refl, znew, true_or, or_true, b01_t, b01_f, b01_ok, bool_ft, vp_b01, vp_b0, vp_b1, b01_eq0, b01_eq1, implies_true, nI_add, nI_clamp, zi_in, zi_le_t, zi_le_f, zi_lt_t, zi_lt_f, zi_eq_t, zi_eq_f, nI_leI, nI_ltI, nI_eq, z_in, pk_mul, zu_same, zu_rw, zu_ix, zi_ne0, zi_sub, zi_m1, Nat.add_sub_cancel, Nat.reduceMul, Nat.reduceSub]
    exact hVQ _ _ ⟨by rw [e, decide_eq_false (fun x => by unfold isSg at hk; omega)]; rfl, rfl⟩
  · rw [hkk] at e e2
    have : soK (tkK A q.1) = 3 := by unfold soK; rw [if_neg (by omega), if_neg (by omega), if_neg (by omega), if_neg (by omega), if_pos e]
    rw [this] at e5
    refine sX3_isSign_0 _ _ _ _ _ ?_
    simp (disch := omega) only [oAld, oAld1, oGI, oGR, oIfc, oIld, oNop, oPush, oRZ, hB.pk, hB.pr0, hB.tk, hB.tr3, hB.tt3, hB.tn3, hB.tr6, hB.tt6, hB.tn6, e3, e5, List.getElem?_cons_zero, List.getElem?_cons_succ, List.set_cons_zero, List.set_cons_succ, List.drop_succ_cons, List.drop_zero, List.take_succ_cons, List.take_zero, List.length_cons, List.length_nil, List.reverse_cons, List.reverse_nil, List.nil_append, List.cons_append, Option.toList_some, Option.toList_none, va_rf_s, true_and, and_true, true_implies, false_implies, not_true_eq_false, not_false_eq_true, Nat.reduceAdd, Nat.reduceLeDiff, Nat.le_add_left, Nat.zero_le, Nat.le_refl, znew, true_or, or_true, b01_t, b01_f, b01_ok, bool_ft, vp_b01, vp_b0, vp_b1, b01_eq0, b01_eq1, implies_true, nI_add, nI_clamp, zi_in, zi_le_t, zi_le_f, zi_lt_t, zi_lt_f, zi_eq_t, zi_eq_f, nI_leI, nI_ltI, nI_eq, z_in, pk_mul, zu_same, zu_rw, zu_ix, zi_ne0, zi_sub, zi_m1, Nat.add_sub_cancel, Nat.reduceMul, Nat.reduceSub]
    exact hVQ _ _ ⟨by rw [decide_eq_false (fun x => by unfold isSg at hk; omega)]; rfl, rfl⟩
  · rw [hkk] at e1 e8
    have : soK (tkK A q.1) = 2 := by unfold isSg at e1; unfold soK; rw [if_neg (by omega), if_neg (by omega), if_neg (by omega), if_neg (by omega), if_neg (by omega)]
    rw [this] at e5
    have hb2 := sgI_b (tkK A q.1)
    by_cases he : tkK A q.1 = k
    · have h8 : (nI (sgI (tkK A q.1)) = nI (sgI k)) = True := eq_true (by rw [he])
      refine sX3_isSign_0 _ _ _ _ _ ?_
      simp (disch := omega) only [oAld, oAld1, oGI, oGR, oIfc, oIld, oNop, oPush, oRZ, hB.pk, hB.pr0, hB.tk, hB.tr3, hB.tt3, hB.tn3, hB.tr6, hB.tt6, hB.tn6, e3, e5, e8, h8, List.getElem?_cons_zero, List.getElem?_cons_succ, List.set_cons_zero, List.set_cons_succ, List.drop_succ_cons, List.drop_zero, List.take_succ_cons, List.take_zero, List.length_cons, List.length_nil, List.reverse_cons, List.reverse_nil, List.nil_append, List.cons_append, Option.toList_some, Option.toList_none, va_rf_s, true_and, and_true, true_implies, false_implies, not_true_eq_false, not_false_eq_true, Nat.reduceAdd, Nat.reduceLeDiff, Nat.le_add_left, Nat.zero_le, Nat.le_refl, znew, true_or, or_true, b01_t, b01_f, b01_ok, bool_ft, vp_b01, vp_b0, vp_b1, b01_eq0, b01_eq1, implies_true, nI_add, nI_clamp, zi_in, zi_le_t, zi_le_f, zi_lt_t, zi_lt_f, zi_eq_t, zi_eq_f, nI_leI, nI_ltI, nI_eq, z_in, pk_mul, zu_same, zu_rw, zu_ix, zi_ne0, zi_sub, zi_m1, Nat.add_sub_cancel, Nat.reduceMul, Nat.reduceSub]
      exact hVQ _ _ ⟨by rw [decide_eq_true he]; rfl, rfl⟩
    · have h8 : (nI (sgI (tkK A q.1)) = nI (sgI k)) = False := eq_false (fun x => he (by
        rw [nI_eq (by omega) (by omega)] at x
        unfold isSg at hk e1
        exact sgI_inj _ (by omega) _ (by omega) e1 hk x))
      refine sX3_isSign_0 _ _ _ _ _ ?_
      simp (disch := omega) only [oAld, oAld1, oGI, oGR, oIfc, oIld, oNop, oPush, oRZ, hB.pk, hB.pr0, hB.tk, hB.tr3, hB.tt3, hB.tn3, hB.tr6, hB.tt6, hB.tn6, e3, e5, e8, h8, List.getElem?_cons_zero, List.getElem?_cons_succ, List.set_cons_zero, List.set_cons_succ, List.drop_succ_cons, List.drop_zero, List.take_succ_cons, List.take_zero, List.length_cons, List.length_nil, List.reverse_cons, List.reverse_nil, List.nil_append, List.cons_append, Option.toList_some, Option.toList_none, va_rf_s, true_and, and_true, true_implies, false_implies, not_true_eq_false, not_false_eq_true, Nat.reduceAdd, Nat.reduceLeDiff, Nat.le_add_left, Nat.zero_le, Nat.le_refl, znew, true_or, or_true, b01_t, b01_f, b01_ok, bool_ft, vp_b01, vp_b0, vp_b1, b01_eq0, b01_eq1, implies_true, nI_add, nI_clamp, zi_in, zi_le_t, zi_le_f, zi_lt_t, zi_lt_f, zi_eq_t, zi_eq_f, nI_leI, nI_ltI, nI_eq, z_in, pk_mul, zu_same, zu_rw, zu_ix, zi_ne0, zi_sub, zi_m1, Nat.add_sub_cancel, Nat.reduceMul, Nat.reduceSub]
      exact hVQ _ _ ⟨by rw [decide_eq_false he]; rfl, rfl⟩
theorem soK_3 {k : Nat} (h : soK k = 3) : 20 ≤ k := by
  unfold soK at h
  (repeat' split at h) <;> omega
theorem zX3_isWord (hX : pX c z h S P A N) (hI : pI c S N q o) {w : Nat} (hw : w < 23) : zM l E 0 YX3_isWord [.ref (c + 9), .int (nI w)] (z, h, S, L) 0 0 (fun r X => r = some (.int (b01 (decide (tkK A q.1 = 20 + w)))) ∧ X = (z, h, S, L)) (fun _ _ => False) := by
  have hB := hX.1
  have e3 := hI.1
  have hN := hX.n
  have hq := hI.2.2.2.2.1.2
  have ht := hX.tk hq
  have e5 := hX.so hq
  have hsb := soK_b (tkK A q.1)
  refine zM.go rfl rfl (Nat.le_of_ble_eq_true rfl) (ls := [some (.ref (c + 9)), some (.int (nI w))]) rfl ?_
  intro V hVl hVE hVd hVc hVs hVQ hVX
  have hkk : (A.getD q.1 tk0).1 = tkK A q.1 := rfl
  by_cases h3 : soK (tkK A q.1) = 3
  · have h20 := soK_3 h3
    have e8 : S (c + 8) q.1 = nI (tkK A q.1 - 20) ∧ tkK A q.1 ≤ 42 := by
      rcases ht.2 with ⟨e, -⟩ | ⟨e, -⟩ | ⟨e, -, -⟩ | ⟨e, -, -⟩ | ⟨⟨e, e2⟩, -, e8⟩ | ⟨e1, -, -⟩
      · rw [hkk] at e; omega
      · rw [hkk] at e; omega
      · rw [hkk] at e; omega
      · rw [hkk] at e; omega
      · exact ⟨e8, e2⟩
      · unfold isSg at e1; rw [hkk] at e1; omega
    obtain ⟨e8, e42⟩ := e8
    rw [h3] at e5
    by_cases he : tkK A q.1 = 20 + w
    · have h8 : (nI (tkK A q.1 - 20) = nI w) = True := eq_true (by rw [he]; congr 1; omega)
      refine sX3_isWord_0 _ _ _ _ _ ?_
      simp (disch := omega) only [oAld, oAld1, oGI, oGR, oIfc, oIld, oNop, oPush, oRZ, hB.pk, hB.pr0, hB.tk, hB.tr3, hB.tt3, hB.tn3, hB.tr6, hB.tt6, hB.tn6, e3, e5, e8, h8, List.getElem?_cons_zero, List.getElem?_cons_succ, List.set_cons_zero, List.set_cons_succ, List.drop_succ_cons, List.drop_zero, List.take_succ_cons, List.take_zero, List.length_cons, List.length_nil, List.reverse_cons, List.reverse_nil, List.nil_append, List.cons_append, Option.toList_some, Option.toList_none, va_rf_s, true_and, and_true, true_implies, false_implies, not_true_eq_false, not_false_eq_true, Nat.reduceAdd, Nat.reduceLeDiff, Nat.le_add_left, Nat.zero_le, Nat.le_refl, znew, true_or, or_true, b01_t, b01_f, b01_ok, bool_ft, vp_b01, vp_b0, vp_b1, b01_eq0, b01_eq1, implies_true, nI_add, nI_clamp, zi_in, zi_le_t, zi_le_f, zi_lt_t, zi_lt_f, zi_eq_t, zi_eq_f, nI_leI, nI_ltI, nI_eq, z_in, pk_mul, zu_same, zu_rw, zu_ix, zi_ne0, zi_sub, zi_m1, Nat.add_sub_cancel, Nat.reduceMul, Nat.reduceSub]
      exact hVQ _ _ ⟨by rw [decide_eq_true he]; rfl, rfl⟩
    · have h8 : (nI (tkK A q.1 - 20) = nI w) = False := eq_false (fun x => he (by rw [nI_eq (by omega) (by omega)] at x; omega))
      refine sX3_isWord_0 _ _ _ _ _ ?_
      simp (disch := omega) only [oAld, oAld1, oGI, oGR, oIfc, oIld, oNop, oPush, oRZ, hB.pk, hB.pr0, hB.tk, hB.tr3, hB.tt3, hB.tn3, hB.tr6, hB.tt6, hB.tn6, e3, e5, e8, h8, List.getElem?_cons_zero, List.getElem?_cons_succ, List.set_cons_zero, List.set_cons_succ, List.drop_succ_cons, List.drop_zero, List.take_succ_cons, List.take_zero, List.length_cons, List.length_nil, List.reverse_cons, List.reverse_nil, List.nil_append, List.cons_append, Option.toList_some, Option.toList_none, va_rf_s, true_and, and_true, true_implies, false_implies, not_true_eq_false, not_false_eq_true, Nat.reduceAdd, Nat.reduceLeDiff, Nat.le_add_left, Nat.zero_le, Nat.le_refl, znew, true_or, or_true, b01_t, b01_f, b01_ok, bool_ft, vp_b01, vp_b0, vp_b1, b01_eq0, b01_eq1, implies_true, nI_add, nI_clamp, zi_in, zi_le_t, zi_le_f, zi_lt_t, zi_lt_f, zi_eq_t, zi_eq_f, nI_leI, nI_ltI, nI_eq, z_in, pk_mul, zu_same, zu_rw, zu_ix, zi_ne0, zi_sub, zi_m1, Nat.add_sub_cancel, Nat.reduceMul, Nat.reduceSub]
      exact hVQ _ _ ⟨by rw [decide_eq_false he]; rfl, rfl⟩
  · have h5' : (nI (soK (tkK A q.1)) = nI 3) = False := eq_false (fun e => h3 (by rw [nI_eq (by omega) (by omega)] at e; exact e))
    refine sX3_isWord_0 _ _ _ _ _ ?_
    simp (disch := omega) only [oAld, oAld1, oGI, oGR, oIfc, oIld, oNop, oPush, oRZ, hB.pk, hB.pr0, hB.tk, hB.tr3, hB.tt3, hB.tn3, hB.tr6, hB.tt6, hB.tn6, e3, e5, h5', List.getElem?_cons_zero, List.getElem?_cons_succ, List.set_cons_zero, List.set_cons_succ, List.drop_succ_cons, List.drop_zero, List.take_succ_cons, List.take_zero, List.length_cons, List.length_nil, List.reverse_cons, List.reverse_nil, List.nil_append, List.cons_append, Option.toList_some, Option.toList_none, va_rf_s, true_and, and_true, true_implies, false_implies, not_true_eq_false, not_false_eq_true, Nat.reduceAdd, Nat.reduceLeDiff, Nat.le_add_left, Nat.zero_le, Nat.le_refl, znew, true_or, or_true, b01_t, b01_f, b01_ok, bool_ft, vp_b01, vp_b0, vp_b1, b01_eq0, b01_eq1, implies_true, nI_add, nI_clamp, zi_in, zi_le_t, zi_le_f, zi_lt_t, zi_lt_f, zi_eq_t, zi_eq_f, nI_leI, nI_ltI, nI_eq, z_in, pk_mul, zu_same, zu_rw, zu_ix, zi_ne0, zi_sub, zi_m1, Nat.add_sub_cancel, Nat.reduceMul, Nat.reduceSub]
    refine hVQ _ _ ⟨?_, rfl⟩
    rw [decide_eq_false (fun x => h3 (by unfold soK; rw [if_neg (by omega), if_neg (by omega), if_neg (by omega), if_neg (by omega), if_pos (by omega)]))]; rfl
theorem cGo_ok {q q' : zCu} (h : pGo A q = .ok q') : q' = (q.1 + 1, q.2) ∧ q.1 ≠ 400 := by
  unfold pGo at h
  split at h
  · cases h
  · cases h; exact ⟨rfl, by assumption⟩
theorem zX3_sign (hX : pX c z h S P A N) (hI : pI c S N q o) {k : Nat} (hk : isSg k) : zM l E 4 YX3_sign [.ref (c + 9), .int (nI (sgI k))] (z, h, S, L) 0 0 (pOk z h L c S N o (pMust A k q)) (pEr z h L c S (pMust A k q)) := by
  have hB := hX.1
  refine zM.go rfl rfl (Nat.le_of_ble_eq_true rfl) (ls := [some (.ref (c + 9)), some (.int (nI (sgI k)))]) rfl ?_
  intro V hVl hVE hVd hVc hVs hVQ hVX
  refine sX3_sign_0 _ _ _ _ _ ?_
  simp (disch := omega) only [oAld, oCV, oIld, hB.pk, List.getElem?_cons_zero, List.getElem?_cons_succ, List.set_cons_zero, List.set_cons_succ, List.drop_succ_cons, List.drop_zero, List.take_succ_cons, List.take_zero, List.length_cons, List.length_nil, List.reverse_cons, List.reverse_nil, List.nil_append, List.cons_append, Option.toList_some, Option.toList_none, va_rf_s, true_and, and_true, true_implies, false_implies, not_true_eq_false, not_false_eq_true, Nat.reduceAdd, Nat.reduceLeDiff, Nat.le_add_left, Nat.zero_le, Nat.le_refl, znew, true_or, or_true, b01_t, b01_f, b01_ok, bool_ft, vp_b01, vp_b0, vp_b1, b01_eq0, b01_eq1, implies_true, nI_add, nI_clamp, zi_in, zi_le_t, zi_le_f, zi_lt_t, zi_lt_f, zi_eq_t, zi_eq_f, nI_leI, nI_ltI, nI_eq, z_in, pk_mul, zu_same, zu_rw, zu_ix, zi_ne0, zi_sub, zi_m1, Nat.add_sub_cancel, Nat.reduceMul, Nat.reduceSub]
  refine zC.of0 (zX3_isSign hX hI hk) (by omega) (Nat.zero_le _) (Nat.zero_le _) ?_
  rintro _ _ ⟨rfl, rfl⟩
  by_cases he : tkK A q.1 = k
  · rw [decide_eq_true he]
    have hM : pMust A k q = pGo A q := by unfold pMust; rw [if_pos he]
    rw [hM] at hVQ hVX
    refine sX3_sign_5 _ _ _ _ _ ?_
    simp (disch := omega) only [oAld, oCV, oIf, oPush, hB.pk, List.getElem?_cons_zero, List.getElem?_cons_succ, List.set_cons_zero, List.set_cons_succ, List.drop_succ_cons, List.drop_zero, List.take_succ_cons, List.take_zero, List.length_cons, List.length_nil, List.reverse_cons, List.reverse_nil, List.nil_append, List.cons_append, Option.toList_some, Option.toList_none, va_rf_s, true_and, and_true, true_implies, false_implies, not_true_eq_false, not_false_eq_true, Nat.reduceAdd, Nat.reduceLeDiff, Nat.le_add_left, Nat.zero_le, Nat.le_refl, znew, true_or, or_true, b01_t, b01_f, b01_ok, bool_ft, vp_b01, vp_b0, vp_b1, b01_eq0, b01_eq1, implies_true, nI_add, nI_clamp, zi_in, zi_le_t, zi_le_f, zi_lt_t, zi_lt_f, zi_eq_t, zi_eq_f, nI_leI, nI_ltI, nI_eq, z_in, pk_mul, zu_same, zu_rw, zu_ix, zi_ne0, zi_sub, zi_m1, Nat.add_sub_cancel, Nat.reduceMul, Nat.reduceSub]
    refine zC.of (zX3_pass hX hI (hX.nx hI.2.2.2.2.1.2 (by unfold isSg at hk; omega) (by unfold isSg at hk; omega))) (by omega) (by omega) (by omega) ?_ ?_
    · rintro _ _ ⟨rfl, q', S', e1, rfl, f1, f2⟩
      refine sX3_sign_18 _ _ _ _ _ ?_
      simp (disch := omega) only [oRV, List.getElem?_cons_zero, List.getElem?_cons_succ, List.set_cons_zero, List.set_cons_succ, List.drop_succ_cons, List.drop_zero, List.take_succ_cons, List.take_zero, List.length_cons, List.length_nil, List.reverse_cons, List.reverse_nil, List.nil_append, List.cons_append, Option.toList_some, Option.toList_none, va_rf_s, true_and, and_true, true_implies, false_implies, not_true_eq_false, not_false_eq_true, Nat.reduceAdd, Nat.reduceLeDiff, Nat.le_add_left, Nat.zero_le, Nat.le_refl, znew, true_or, or_true, b01_t, b01_f, b01_ok, bool_ft, vp_b01, vp_b0, vp_b1, b01_eq0, b01_eq1, implies_true, nI_add, nI_clamp, zi_in, zi_le_t, zi_le_f, zi_lt_t, zi_lt_f, zi_eq_t, zi_eq_f, nI_leI, nI_ltI, nI_eq, z_in, pk_mul, zu_same, zu_rw, zu_ix, zi_ne0, zi_sub, zi_m1, Nat.add_sub_cancel, Nat.reduceMul, Nat.reduceSub]
      exact hVQ _ _ ⟨rfl, q', S', e1, rfl, f1, f2⟩
    · rintro _ _ ⟨e, S', e1, rfl, rfl, f1, f2⟩
      exact ⟨hVX _ _ ⟨e, S', e1, rfl, rfl, f1, f2⟩, by omega, by omega⟩
  · rw [decide_eq_false he]
    refine sX3_sign_5 _ _ _ _ _ ?_
    simp (disch := omega) only [oAld, oCV, oIf, oPush, hB.pk, List.getElem?_cons_zero, List.getElem?_cons_succ, List.set_cons_zero, List.set_cons_succ, List.drop_succ_cons, List.drop_zero, List.take_succ_cons, List.take_zero, List.length_cons, List.length_nil, List.reverse_cons, List.reverse_nil, List.nil_append, List.cons_append, Option.toList_some, Option.toList_none, va_rf_s, true_and, and_true, true_implies, false_implies, not_true_eq_false, not_false_eq_true, Nat.reduceAdd, Nat.reduceLeDiff, Nat.le_add_left, Nat.zero_le, Nat.le_refl, znew, true_or, or_true, b01_t, b01_f, b01_ok, bool_ft, vp_b01, vp_b0, vp_b1, b01_eq0, b01_eq1, implies_true, nI_add, nI_clamp, zi_in, zi_le_t, zi_le_f, zi_lt_t, zi_lt_f, zi_eq_t, zi_eq_f, nI_leI, nI_ltI, nI_eq, z_in, pk_mul, zu_same, zu_rw, zu_ix, zi_ne0, zi_sub, zi_m1, Nat.add_sub_cancel, Nat.reduceMul, Nat.reduceSub]
    refine zC.of0 (zX3_wrong hX hI (by omega)) (by omega) (Nat.zero_le _) (Nat.zero_le _) ?_
    rintro _ _ ⟨rfl, S', rfl, f1, f2⟩
    refine sX3_sign_13 _ _ _ _ _ ?_
    simp (disch := omega) only [oThrow, zOut, hB.fk, List.getElem?_cons_zero, List.getElem?_cons_succ, List.set_cons_zero, List.set_cons_succ, List.drop_succ_cons, List.drop_zero, List.take_succ_cons, List.take_zero, List.length_cons, List.length_nil, List.reverse_cons, List.reverse_nil, List.nil_append, List.cons_append, Option.toList_some, Option.toList_none, va_rf_s, true_and, and_true, true_implies, false_implies, not_true_eq_false, not_false_eq_true, Nat.reduceAdd, Nat.reduceLeDiff, Nat.le_add_left, Nat.zero_le, Nat.le_refl, znew, true_or, or_true, b01_t, b01_f, b01_ok, bool_ft, vp_b01, vp_b0, vp_b1, b01_eq0, b01_eq1, implies_true, nI_add, nI_clamp, zi_in, zi_le_t, zi_le_f, zi_lt_t, zi_lt_f, zi_eq_t, zi_eq_f, nI_leI, nI_ltI, nI_eq, z_in, pk_mul, zu_same, zu_rw, zu_ix, zi_ne0, zi_sub, zi_m1, Nat.add_sub_cancel, Nat.reduceMul, Nat.reduceSub]
    exact hVX _ _ ⟨_, S', by unfold pMust; rw [if_neg he]; rfl, rfl, rfl, f1, f2⟩
theorem zX3_word (hX : pX c z h S P A N) (hI : pI c S N q o) {w : Nat} (hw : w < 23) : zM l E 4 YX3_word [.ref (c + 9), .int (nI w)] (z, h, S, L) 0 0 (pOk z h L c S N o (pMust A (20 + w) q)) (pEr z h L c S (pMust A (20 + w) q)) := by
  have hB := hX.1
  refine zM.go rfl rfl (Nat.le_of_ble_eq_true rfl) (ls := [some (.ref (c + 9)), some (.int (nI w))]) rfl ?_
  intro V hVl hVE hVd hVc hVs hVQ hVX
  refine sX3_word_0 _ _ _ _ _ ?_
  simp (disch := omega) only [oAld, oCV, oIld, hB.pk, List.getElem?_cons_zero, List.getElem?_cons_succ, List.set_cons_zero, List.set_cons_succ, List.drop_succ_cons, List.drop_zero, List.take_succ_cons, List.take_zero, List.length_cons, List.length_nil, List.reverse_cons, List.reverse_nil, List.nil_append, List.cons_append, Option.toList_some, Option.toList_none, va_rf_s, true_and, and_true, true_implies, false_implies, not_true_eq_false, not_false_eq_true, Nat.reduceAdd, Nat.reduceLeDiff, Nat.le_add_left, Nat.zero_le, Nat.le_refl, znew, true_or, or_true, b01_t, b01_f, b01_ok, bool_ft, vp_b01, vp_b0, vp_b1, b01_eq0, b01_eq1, implies_true, nI_add, nI_clamp, zi_in, zi_le_t, zi_le_f, zi_lt_t, zi_lt_f, zi_eq_t, zi_eq_f, nI_leI, nI_ltI, nI_eq, z_in, pk_mul, zu_same, zu_rw, zu_ix, zi_ne0, zi_sub, zi_m1, Nat.add_sub_cancel, Nat.reduceMul, Nat.reduceSub]
  refine zC.of0 (zX3_isWord hX hI hw) (by omega) (Nat.zero_le _) (Nat.zero_le _) ?_
  rintro _ _ ⟨rfl, rfl⟩
  by_cases he : tkK A q.1 = 20 + w
  · rw [decide_eq_true he]
    have hM : pMust A (20 + w) q = pGo A q := by unfold pMust; rw [if_pos he]
    rw [hM] at hVQ hVX
    refine sX3_word_5 _ _ _ _ _ ?_
    simp (disch := omega) only [oAld, oCV, oIf, oPush, hB.pk, List.getElem?_cons_zero, List.getElem?_cons_succ, List.set_cons_zero, List.set_cons_succ, List.drop_succ_cons, List.drop_zero, List.take_succ_cons, List.take_zero, List.length_cons, List.length_nil, List.reverse_cons, List.reverse_nil, List.nil_append, List.cons_append, Option.toList_some, Option.toList_none, va_rf_s, true_and, and_true, true_implies, false_implies, not_true_eq_false, not_false_eq_true, Nat.reduceAdd, Nat.reduceLeDiff, Nat.le_add_left, Nat.zero_le, Nat.le_refl, znew, true_or, or_true, b01_t, b01_f, b01_ok, bool_ft, vp_b01, vp_b0, vp_b1, b01_eq0, b01_eq1, implies_true, nI_add, nI_clamp, zi_in, zi_le_t, zi_le_f, zi_lt_t, zi_lt_f, zi_eq_t, zi_eq_f, nI_leI, nI_ltI, nI_eq, z_in, pk_mul, zu_same, zu_rw, zu_ix, zi_ne0, zi_sub, zi_m1, Nat.add_sub_cancel, Nat.reduceMul, Nat.reduceSub]
    refine zC.of (zX3_pass hX hI (hX.nx hI.2.2.2.2.1.2 (by omega) (by omega))) (by omega) (by omega) (by omega) ?_ ?_
    · rintro _ _ ⟨rfl, q', S', e1, rfl, f1, f2⟩
      refine sX3_word_18 _ _ _ _ _ ?_
      simp (disch := omega) only [oRV, List.getElem?_cons_zero, List.getElem?_cons_succ, List.set_cons_zero, List.set_cons_succ, List.drop_succ_cons, List.drop_zero, List.take_succ_cons, List.take_zero, List.length_cons, List.length_nil, List.reverse_cons, List.reverse_nil, List.nil_append, List.cons_append, Option.toList_some, Option.toList_none, va_rf_s, true_and, and_true, true_implies, false_implies, not_true_eq_false, not_false_eq_true, Nat.reduceAdd, Nat.reduceLeDiff, Nat.le_add_left, Nat.zero_le, Nat.le_refl, znew, true_or, or_true, b01_t, b01_f, b01_ok, bool_ft, vp_b01, vp_b0, vp_b1, b01_eq0, b01_eq1, implies_true, nI_add, nI_clamp, zi_in, zi_le_t, zi_le_f, zi_lt_t, zi_lt_f, zi_eq_t, zi_eq_f, nI_leI, nI_ltI, nI_eq, z_in, pk_mul, zu_same, zu_rw, zu_ix, zi_ne0, zi_sub, zi_m1, Nat.add_sub_cancel, Nat.reduceMul, Nat.reduceSub]
      exact hVQ _ _ ⟨rfl, q', S', e1, rfl, f1, f2⟩
    · rintro _ _ ⟨e, S', e1, rfl, rfl, f1, f2⟩
      exact ⟨hVX _ _ ⟨e, S', e1, rfl, rfl, f1, f2⟩, by omega, by omega⟩
  · rw [decide_eq_false he]
    refine sX3_word_5 _ _ _ _ _ ?_
    simp (disch := omega) only [oAld, oCV, oIf, oPush, hB.pk, List.getElem?_cons_zero, List.getElem?_cons_succ, List.set_cons_zero, List.set_cons_succ, List.drop_succ_cons, List.drop_zero, List.take_succ_cons, List.take_zero, List.length_cons, List.length_nil, List.reverse_cons, List.reverse_nil, List.nil_append, List.cons_append, Option.toList_some, Option.toList_none, va_rf_s, true_and, and_true, true_implies, false_implies, not_true_eq_false, not_false_eq_true, Nat.reduceAdd, Nat.reduceLeDiff, Nat.le_add_left, Nat.zero_le, Nat.le_refl, znew, true_or, or_true, b01_t, b01_f, b01_ok, bool_ft, vp_b01, vp_b0, vp_b1, b01_eq0, b01_eq1, implies_true, nI_add, nI_clamp, zi_in, zi_le_t, zi_le_f, zi_lt_t, zi_lt_f, zi_eq_t, zi_eq_f, nI_leI, nI_ltI, nI_eq, z_in, pk_mul, zu_same, zu_rw, zu_ix, zi_ne0, zi_sub, zi_m1, Nat.add_sub_cancel, Nat.reduceMul, Nat.reduceSub]
    refine zC.of0 (zX3_wrong hX hI (by omega)) (by omega) (Nat.zero_le _) (Nat.zero_le _) ?_
    rintro _ _ ⟨rfl, S', rfl, f1, f2⟩
    refine sX3_word_13 _ _ _ _ _ ?_
    simp (disch := omega) only [oThrow, zOut, hB.fk, List.getElem?_cons_zero, List.getElem?_cons_succ, List.set_cons_zero, List.set_cons_succ, List.drop_succ_cons, List.drop_zero, List.take_succ_cons, List.take_zero, List.length_cons, List.length_nil, List.reverse_cons, List.reverse_nil, List.nil_append, List.cons_append, Option.toList_some, Option.toList_none, va_rf_s, true_and, and_true, true_implies, false_implies, not_true_eq_false, not_false_eq_true, Nat.reduceAdd, Nat.reduceLeDiff, Nat.le_add_left, Nat.zero_le, Nat.le_refl, znew, true_or, or_true, b01_t, b01_f, b01_ok, bool_ft, vp_b01, vp_b0, vp_b1, b01_eq0, b01_eq1, implies_true, nI_add, nI_clamp, zi_in, zi_le_t, zi_le_f, zi_lt_t, zi_lt_f, zi_eq_t, zi_eq_f, nI_leI, nI_ltI, nI_eq, z_in, pk_mul, zu_same, zu_rw, zu_ix, zi_ne0, zi_sub, zi_m1, Nat.add_sub_cancel, Nat.reduceMul, Nat.reduceSub]
    exact hVX _ _ ⟨_, S', by unfold pMust; rw [if_neg he]; rfl, rfl, rfl, f1, f2⟩
theorem soK_inj {k : Nat} : (soK k = 0 ↔ k = 1) ∧ (soK k = 1 ↔ k = 2) ∧ (soK k = 4 ↔ k = 0) := by
  unfold soK
  refine ⟨⟨fun q => ?_, fun q => by rw [q]; rfl⟩, ⟨fun q => ?_, fun q => by rw [q]; rfl⟩, ⟨fun q => ?_, fun q => by rw [q]; rfl⟩⟩ <;> ((repeat' split at q) <;> omega)
/-- take: a name (1) or a number (2) -/
theorem zX3_take (hX : pX c z h S P A N) (hI : pI c S N q o) {k s : Nat} (hk : (k = 1 ∧ s = 0) ∨ (k = 2 ∧ s = 1)) : zM l E 4 YX3_take [.ref (c + 9), .int (nI s)] (z, h, S, L) 0 0 (fun r X => r = some (.int (nI q.1)) ∧ tkK A q.1 = k ∧ ∃ q' S', pMust A k q = .ok q' ∧ X = (z, h, S', L) ∧ pFs c S S' ∧ pI c S' N q' o) (pEr z h L c S (pMust A k q)) := by
  have hB := hX.1
  have hsb := soK_b (tkK A q.1)
  refine zM.go rfl rfl (Nat.le_of_ble_eq_true rfl) (ls := [some (.ref (c + 9)), some (.int (nI s))]) rfl ?_
  intro V hVl hVE hVd hVc hVs hVQ hVX
  refine sX3_take_0 _ _ _ _ _ ?_
  simp (disch := omega) only [oAld, oCV, hB.pk, List.getElem?_cons_zero, List.getElem?_cons_succ, List.set_cons_zero, List.set_cons_succ, List.drop_succ_cons, List.drop_zero, List.take_succ_cons, List.take_zero, List.length_cons, List.length_nil, List.reverse_cons, List.reverse_nil, List.nil_append, List.cons_append, Option.toList_some, Option.toList_none, va_rf_s, true_and, and_true, true_implies, false_implies, not_true_eq_false, not_false_eq_true, Nat.reduceAdd, Nat.reduceLeDiff, Nat.le_add_left, Nat.zero_le, Nat.le_refl, znew, true_or, or_true, b01_t, b01_f, b01_ok, bool_ft, vp_b01, vp_b0, vp_b1, b01_eq0, b01_eq1, implies_true, nI_add, nI_clamp, zi_in, zi_le_t, zi_le_f, zi_lt_t, zi_lt_f, zi_eq_t, zi_eq_f, nI_leI, nI_ltI, nI_eq, z_in, pk_mul, zu_same, zu_rw, zu_ix, zi_ne0, zi_sub, zi_m1, Nat.add_sub_cancel, Nat.reduceMul, Nat.reduceSub]
  refine zC.of (zX3_sort hX hI) (by omega) (by omega) (by omega) ?_ ?_
  · rintro _ _ ⟨h3, rfl, rfl⟩
    by_cases he : tkK A q.1 = k
    · have hs : soK (tkK A q.1) = s := by
        rcases hk with ⟨k1, k2⟩ | ⟨k1, k2⟩
        · rw [k2]; exact soK_inj.1.mpr (by omega)
        · rw [k2]; exact soK_inj.2.1.mpr (by omega)
      have hs' : (nI (soK (tkK A q.1)) = nI s) = True := eq_true (by rw [hs])
      have hM : pMust A k q = pGo A q := by unfold pMust; rw [if_pos he]
      rw [hM] at hVQ hVX
      refine sX3_take_4 _ _ _ _ _ ?_
      simp (disch := omega) only [oAld, oCV, oIfc, oIld, oPush, hB.pk, hs', List.getElem?_cons_zero, List.getElem?_cons_succ, List.set_cons_zero, List.set_cons_succ, List.drop_succ_cons, List.drop_zero, List.take_succ_cons, List.take_zero, List.length_cons, List.length_nil, List.reverse_cons, List.reverse_nil, List.nil_append, List.cons_append, Option.toList_some, Option.toList_none, va_rf_s, true_and, and_true, true_implies, false_implies, not_true_eq_false, not_false_eq_true, Nat.reduceAdd, Nat.reduceLeDiff, Nat.le_add_left, Nat.zero_le, Nat.le_refl, znew, true_or, or_true, b01_t, b01_f, b01_ok, bool_ft, vp_b01, vp_b0, vp_b1, b01_eq0, b01_eq1, implies_true, nI_add, nI_clamp, zi_in, zi_le_t, zi_le_f, zi_lt_t, zi_lt_f, zi_eq_t, zi_eq_f, nI_leI, nI_ltI, nI_eq, z_in, pk_mul, zu_same, zu_rw, zu_ix, zi_ne0, zi_sub, zi_m1, Nat.add_sub_cancel, Nat.reduceMul, Nat.reduceSub]
      refine zC.of (zX3_pass hX hI (hX.nx hI.2.2.2.2.1.2 (by omega) (by omega))) (by omega) (by omega) (by omega) ?_ ?_
      · rintro _ _ ⟨rfl, q', S', e1, rfl, f1, f2⟩
        have i3 := f2.1
        have eq := (cGo_ok e1).1
        have hq1 : q'.1 = q.1 + 1 := by rw [eq]
        rw [hq1] at i3
        have hbnd := f2.2.2.2.2.1.1
        refine sX3_take_18 _ _ _ _ _ ?_
        simp (disch := omega) only [oAld, oBin, oGI, oPush, oRI, hB.pk, i3, List.getElem?_cons_zero, List.getElem?_cons_succ, List.set_cons_zero, List.set_cons_succ, List.drop_succ_cons, List.drop_zero, List.take_succ_cons, List.take_zero, List.length_cons, List.length_nil, List.reverse_cons, List.reverse_nil, List.nil_append, List.cons_append, Option.toList_some, Option.toList_none, va_rf_s, true_and, and_true, true_implies, false_implies, not_true_eq_false, not_false_eq_true, Nat.reduceAdd, Nat.reduceLeDiff, Nat.le_add_left, Nat.zero_le, Nat.le_refl, znew, true_or, or_true, b01_t, b01_f, b01_ok, bool_ft, vp_b01, vp_b0, vp_b1, b01_eq0, b01_eq1, implies_true, nI_add, nI_clamp, zi_in, zi_le_t, zi_le_f, zi_lt_t, zi_lt_f, zi_eq_t, zi_eq_f, nI_leI, nI_ltI, nI_eq, z_in, pk_mul, zu_same, zu_rw, zu_ix, zi_ne0, zi_sub, zi_m1, Nat.add_sub_cancel, Nat.reduceMul, Nat.reduceSub]
        exact hVQ _ _ ⟨rfl, he, q', S', e1, rfl, f1, f2⟩
      · rintro _ _ ⟨e, S', e1, rfl, rfl, f1, f2⟩
        exact ⟨hVX _ _ ⟨e, S', e1, rfl, rfl, f1, f2⟩, by omega, by omega⟩
    · have hs' : (nI (soK (tkK A q.1)) = nI s) = False := eq_false (fun x => he (by
        rcases hk with ⟨k1, k2⟩ | ⟨k1, k2⟩
        · rw [nI_eq (by omega) (by omega), k2] at x; rw [k1]; exact soK_inj.1.mp x
        · rw [nI_eq (by omega) (by omega), k2] at x; rw [k1]; exact soK_inj.2.1.mp x))
      refine sX3_take_4 _ _ _ _ _ ?_
      simp (disch := omega) only [oAld, oCV, oIfc, oIld, oPush, hB.pk, hs', List.getElem?_cons_zero, List.getElem?_cons_succ, List.set_cons_zero, List.set_cons_succ, List.drop_succ_cons, List.drop_zero, List.take_succ_cons, List.take_zero, List.length_cons, List.length_nil, List.reverse_cons, List.reverse_nil, List.nil_append, List.cons_append, Option.toList_some, Option.toList_none, va_rf_s, true_and, and_true, true_implies, false_implies, not_true_eq_false, not_false_eq_true, Nat.reduceAdd, Nat.reduceLeDiff, Nat.le_add_left, Nat.zero_le, Nat.le_refl, znew, true_or, or_true, b01_t, b01_f, b01_ok, bool_ft, vp_b01, vp_b0, vp_b1, b01_eq0, b01_eq1, implies_true, nI_add, nI_clamp, zi_in, zi_le_t, zi_le_f, zi_lt_t, zi_lt_f, zi_eq_t, zi_eq_f, nI_leI, nI_ltI, nI_eq, z_in, pk_mul, zu_same, zu_rw, zu_ix, zi_ne0, zi_sub, zi_m1, Nat.add_sub_cancel, Nat.reduceMul, Nat.reduceSub]
      refine zC.of0 (zX3_wrong hX hI (by omega)) (by omega) (Nat.zero_le _) (Nat.zero_le _) ?_
      rintro _ _ ⟨rfl, S', rfl, f1, f2⟩
      refine sX3_take_13 _ _ _ _ _ ?_
      simp (disch := omega) only [oThrow, zOut, hB.fk, List.getElem?_cons_zero, List.getElem?_cons_succ, List.set_cons_zero, List.set_cons_succ, List.drop_succ_cons, List.drop_zero, List.take_succ_cons, List.take_zero, List.length_cons, List.length_nil, List.reverse_cons, List.reverse_nil, List.nil_append, List.cons_append, Option.toList_some, Option.toList_none, va_rf_s, true_and, and_true, true_implies, false_implies, not_true_eq_false, not_false_eq_true, Nat.reduceAdd, Nat.reduceLeDiff, Nat.le_add_left, Nat.zero_le, Nat.le_refl, znew, true_or, or_true, b01_t, b01_f, b01_ok, bool_ft, vp_b01, vp_b0, vp_b1, b01_eq0, b01_eq1, implies_true, nI_add, nI_clamp, zi_in, zi_le_t, zi_le_f, zi_lt_t, zi_lt_f, zi_eq_t, zi_eq_f, nI_leI, nI_ltI, nI_eq, z_in, pk_mul, zu_same, zu_rw, zu_ix, zi_ne0, zi_sub, zi_m1, Nat.add_sub_cancel, Nat.reduceMul, Nat.reduceSub]
      exact hVX _ _ ⟨_, S', by unfold pMust; rw [if_neg he]; rfl, rfl, rfl, f1, f2⟩
  · rintro _ _ ⟨h3, e, S', e1, rfl, rfl, f1, f2⟩
    refine ⟨hVX _ _ ⟨e, S', ?_, rfl, rfl, f1, f2⟩, by omega, by omega⟩
    unfold pMust; rw [if_neg (by omega)]; exact e1
theorem zX3_begins (hX : pX c z h S P A N) (hI : pI c S N q o) (hnx : q.1 + 1 < N) {n m : Nat} (hn : n < 1000) (hm : m < 1000) : zM l E 4 YX3_begins [.ref (c + 9), .int (nI n), .int (nI m)] (z, h, S, L) 0 0 (pOk z h L c S N o (pOpen A n m q)) (pEr z h L c S (pOpen A n m q)) := by
  have hB := hX.1
  refine zM.go rfl rfl (Nat.le_of_ble_eq_true rfl) (ls := [some (.ref (c + 9)), some (.int (nI n)), some (.int (nI m))]) rfl ?_
  intro V hVl hVE hVd hVc hVs hVQ hVX
  by_cases he : n = m
  · have he' : (nI n = nI m) = True := eq_true (by rw [he])
    refine sX3_begins_0 _ _ _ _ _ ?_
    simp (disch := omega) only [oAld, oCV, oIfc, oIld, oPush, hB.pk, he', List.getElem?_cons_zero, List.getElem?_cons_succ, List.set_cons_zero, List.set_cons_succ, List.drop_succ_cons, List.drop_zero, List.take_succ_cons, List.take_zero, List.length_cons, List.length_nil, List.reverse_cons, List.reverse_nil, List.nil_append, List.cons_append, Option.toList_some, Option.toList_none, va_rf_s, true_and, and_true, true_implies, false_implies, not_true_eq_false, not_false_eq_true, Nat.reduceAdd, Nat.reduceLeDiff, Nat.le_add_left, Nat.zero_le, Nat.le_refl, znew, true_or, or_true, b01_t, b01_f, b01_ok, bool_ft, vp_b01, vp_b0, vp_b1, b01_eq0, b01_eq1, implies_true, nI_add, nI_clamp, zi_in, zi_le_t, zi_le_f, zi_lt_t, zi_lt_f, zi_eq_t, zi_eq_f, nI_leI, nI_ltI, nI_eq, z_in, pk_mul, zu_same, zu_rw, zu_ix, zi_ne0, zi_sub, zi_m1, Nat.add_sub_cancel, Nat.reduceMul, Nat.reduceSub]
    refine zC.of0 (zX3_wrong hX hI (by omega)) (by omega) (Nat.zero_le _) (Nat.zero_le _) ?_
    rintro _ _ ⟨rfl, S', rfl, f1, f2⟩
    refine sX3_begins_10 _ _ _ _ _ ?_
    simp (disch := omega) only [oThrow, zOut, hB.fk, List.getElem?_cons_zero, List.getElem?_cons_succ, List.set_cons_zero, List.set_cons_succ, List.drop_succ_cons, List.drop_zero, List.take_succ_cons, List.take_zero, List.length_cons, List.length_nil, List.reverse_cons, List.reverse_nil, List.nil_append, List.cons_append, Option.toList_some, Option.toList_none, va_rf_s, true_and, and_true, true_implies, false_implies, not_true_eq_false, not_false_eq_true, Nat.reduceAdd, Nat.reduceLeDiff, Nat.le_add_left, Nat.zero_le, Nat.le_refl, znew, true_or, or_true, b01_t, b01_f, b01_ok, bool_ft, vp_b01, vp_b0, vp_b1, b01_eq0, b01_eq1, implies_true, nI_add, nI_clamp, zi_in, zi_le_t, zi_le_f, zi_lt_t, zi_lt_f, zi_eq_t, zi_eq_f, nI_leI, nI_ltI, nI_eq, z_in, pk_mul, zu_same, zu_rw, zu_ix, zi_ne0, zi_sub, zi_m1, Nat.add_sub_cancel, Nat.reduceMul, Nat.reduceSub]
    exact hVX _ _ ⟨_, S', by unfold pOpen; rw [if_pos he]; rfl, rfl, rfl, f1, f2⟩
  · have he' : (nI n = nI m) = False := eq_false (fun x => he (by rw [nI_eq (by omega) (by omega)] at x; exact x))
    have hM : pOpen A n m q = pGo A q := by unfold pOpen; rw [if_neg he]
    rw [hM] at hVQ hVX
    refine sX3_begins_0 _ _ _ _ _ ?_
    simp (disch := omega) only [oAld, oCV, oIfc, oIld, oPush, hB.pk, he', List.getElem?_cons_zero, List.getElem?_cons_succ, List.set_cons_zero, List.set_cons_succ, List.drop_succ_cons, List.drop_zero, List.take_succ_cons, List.take_zero, List.length_cons, List.length_nil, List.reverse_cons, List.reverse_nil, List.nil_append, List.cons_append, Option.toList_some, Option.toList_none, va_rf_s, true_and, and_true, true_implies, false_implies, not_true_eq_false, not_false_eq_true, Nat.reduceAdd, Nat.reduceLeDiff, Nat.le_add_left, Nat.zero_le, Nat.le_refl, znew, true_or, or_true, b01_t, b01_f, b01_ok, bool_ft, vp_b01, vp_b0, vp_b1, b01_eq0, b01_eq1, implies_true, nI_add, nI_clamp, zi_in, zi_le_t, zi_le_f, zi_lt_t, zi_lt_f, zi_eq_t, zi_eq_f, nI_leI, nI_ltI, nI_eq, z_in, pk_mul, zu_same, zu_rw, zu_ix, zi_ne0, zi_sub, zi_m1, Nat.add_sub_cancel, Nat.reduceMul, Nat.reduceSub]
    refine zC.of (zX3_pass hX hI hnx) (by omega) (by omega) (by omega) ?_ ?_
    · rintro _ _ ⟨rfl, q', S', e1, rfl, f1, f2⟩
      refine sX3_begins_15 _ _ _ _ _ ?_
      simp (disch := omega) only [oRV, List.getElem?_cons_zero, List.getElem?_cons_succ, List.set_cons_zero, List.set_cons_succ, List.drop_succ_cons, List.drop_zero, List.take_succ_cons, List.take_zero, List.length_cons, List.length_nil, List.reverse_cons, List.reverse_nil, List.nil_append, List.cons_append, Option.toList_some, Option.toList_none, va_rf_s, true_and, and_true, true_implies, false_implies, not_true_eq_false, not_false_eq_true, Nat.reduceAdd, Nat.reduceLeDiff, Nat.le_add_left, Nat.zero_le, Nat.le_refl, znew, true_or, or_true, b01_t, b01_f, b01_ok, bool_ft, vp_b01, vp_b0, vp_b1, b01_eq0, b01_eq1, implies_true, nI_add, nI_clamp, zi_in, zi_le_t, zi_le_f, zi_lt_t, zi_lt_f, zi_eq_t, zi_eq_f, nI_leI, nI_ltI, nI_eq, z_in, pk_mul, zu_same, zu_rw, zu_ix, zi_ne0, zi_sub, zi_m1, Nat.add_sub_cancel, Nat.reduceMul, Nat.reduceSub]
      exact hVQ _ _ ⟨rfl, q', S', e1, rfl, f1, f2⟩
    · rintro _ _ ⟨e, S', e1, rfl, rfl, f1, f2⟩
      exact ⟨hVX _ _ ⟨e, S', e1, rfl, rfl, f1, f2⟩, by omega, by omega⟩
theorem cMust_ok {k : Nat} {q q' : zCu} (h : pMust A k q = .ok q') : q' = (q.1 + 1, q.2) ∧ tkK A q.1 = k ∧ q.1 ≠ 400 := by
  unfold pMust at h
  split at h
  · exact ⟨(cGo_ok h).1, by assumption, (cGo_ok h).2⟩
  · cases h
theorem zX3_number (hX : pX c z h S P A N) (hI : pI c S N q o) {lo hi : Nat} (hlo : lo < 10000) (hhi : hi < 10000) : zM l E 5 YX3_number [.ref (c + 9), .int (nI lo), .int (nI hi)] (z, h, S, L) 0 0 (fun r X => ∃ v q' S', pNum A lo hi q = .ok (v, q') ∧ r = some (.int (nI v)) ∧ X = (z, h, S', L) ∧ pFs c S S' ∧ pI c S' N q' o) (pEr z h L c S (pNum A lo hi q)) := by
  have hB := hX.1
  have hN := hX.n
  refine zM.go rfl rfl (Nat.le_of_ble_eq_true rfl) (ls := [some (.ref (c + 9)), some (.int (nI lo)), some (.int (nI hi)), none, none]) rfl ?_
  intro V hVl hVE hVd hVc hVs hVQ hVX
  refine sX3_number_0 _ _ _ _ _ ?_
  simp (disch := omega) only [oAld, oCV, oPush, hB.pk, List.getElem?_cons_zero, List.getElem?_cons_succ, List.set_cons_zero, List.set_cons_succ, List.drop_succ_cons, List.drop_zero, List.take_succ_cons, List.take_zero, List.length_cons, List.length_nil, List.reverse_cons, List.reverse_nil, List.nil_append, List.cons_append, Option.toList_some, Option.toList_none, va_rf_s, true_and, and_true, true_implies, false_implies, not_true_eq_false, not_false_eq_true, Nat.reduceAdd, Nat.reduceLeDiff, Nat.le_add_left, Nat.zero_le, Nat.le_refl, znew, true_or, or_true, b01_t, b01_f, b01_ok, bool_ft, vp_b01, vp_b0, vp_b1, b01_eq0, b01_eq1, implies_true, nI_add, nI_clamp, zi_in, zi_le_t, zi_le_f, zi_lt_t, zi_lt_f, zi_eq_t, zi_eq_f, nI_leI, nI_ltI, nI_eq, z_in, pk_mul, zu_same, zu_rw, zu_ix, zi_ne0, zi_sub, zi_m1, Nat.add_sub_cancel, Nat.reduceMul, Nat.reduceSub]
  refine zC.of (zX3_take hX hI (Or.inr ⟨rfl, rfl⟩)) (by omega) (by omega) (by omega) ?_ ?_
  · rintro _ _ ⟨rfl, hk, q', S', e1, rfl, f1, f2⟩
    have hX' := hX.fs f1
    have hq := hI.2.2.2.2.1.2
    obtain ⟨eq, -, h400⟩ := cMust_ok e1
    have hkk : (A.getD q.1 tk0).1 = tkK A q.1 := rfl
    obtain ⟨n, n4, t7, t8, t9, t10⟩ : ∃ n, n ≤ 4 ∧ S' (c + 7) q.1 = nI (tkP A q.1 + n) ∧ tkP A q.1 + n ≤ P.length ∧ tkV A q.1 = dgV P (tkP A q.1) n ∧ ∀ j, j < n → isD (by8 P (tkP A q.1 + j)) = true := by
      rcases (hX'.tk hq).2 with ⟨e, -⟩ | ⟨e, -⟩ | ⟨e, -, -⟩ | ⟨e, -, n, t⟩ | ⟨⟨e, e2⟩, -, -⟩ | ⟨e, -, -⟩
      · rw [hkk] at e; omega
      · rw [hkk] at e; omega
      · rw [hkk] at e; omega
      · exact ⟨n, t⟩
      · rw [hkk] at e; omega
      · unfold isSg at e; rw [hkk] at e; omega
    have hvb : tkV A q.1 < 10000 := by
      rw [t9]
      have := dgV_lt (P := P) (i := tkP A q.1) n t10
      have h2 : 10 ^ n ≤ 10 ^ 4 := Nat.pow_le_pow_right (by omega) n4
      omega
    have hP' : pNum A lo hi q = .ok (tkV A q.1, q'.1, if tkV A q.1 < lo ∨ hi < tkV A q.1 then pTell 5 q.1 q'.2 else q'.2) := by
      unfold pNum
      rw [if_pos hk]
      have : pGo A q = .ok q' := by unfold pMust at e1; rw [if_pos hk] at e1; exact e1
      rw [this]; rfl
    refine sX3_number_5 _ _ _ _ _ ?_
    simp (disch := omega) only [oAld, oCV, oGR, oIld, oIst, hB.pk, hB.pr0, hB.tk, List.getElem?_cons_zero, List.getElem?_cons_succ, List.set_cons_zero, List.set_cons_succ, List.drop_succ_cons, List.drop_zero, List.take_succ_cons, List.take_zero, List.length_cons, List.length_nil, List.reverse_cons, List.reverse_nil, List.nil_append, List.cons_append, Option.toList_some, Option.toList_none, va_rf_s, true_and, and_true, true_implies, false_implies, not_true_eq_false, not_false_eq_true, Nat.reduceAdd, Nat.reduceLeDiff, Nat.le_add_left, Nat.zero_le, Nat.le_refl, znew, true_or, or_true, b01_t, b01_f, b01_ok, bool_ft, vp_b01, vp_b0, vp_b1, b01_eq0, b01_eq1, implies_true, nI_add, nI_clamp, zi_in, zi_le_t, zi_le_f, zi_lt_t, zi_lt_f, zi_eq_t, zi_eq_f, nI_leI, nI_ltI, nI_eq, z_in, pk_mul, zu_same, zu_rw, zu_ix, zi_ne0, zi_sub, zi_m1, Nat.add_sub_cancel, Nat.reduceMul, Nat.reduceSub]
    refine zC.of0 (zX2_number hB hX'.2.2.1 hX.2.2.2.1 (by omega) (hX'.pl hq).1 t7 n4 t8 t10) (by omega) (Nat.zero_le _) (Nat.zero_le _) ?_
    rintro _ _ ⟨rfl, rfl⟩
    rw [← t9]
    generalize tkV A q.1 = v at hvb hP'
    by_cases hlt : v < lo
    · rw [if_pos (Or.inl hlt)] at hP'
      refine sX3_number_14 _ _ _ _ _ ?_
      simp (disch := omega) only [oAld, oCV, oIfc, oIld, oIst, oPush, hB.pk, List.getElem?_cons_zero, List.getElem?_cons_succ, List.set_cons_zero, List.set_cons_succ, List.drop_succ_cons, List.drop_zero, List.take_succ_cons, List.take_zero, List.length_cons, List.length_nil, List.reverse_cons, List.reverse_nil, List.nil_append, List.cons_append, Option.toList_some, Option.toList_none, va_rf_s, true_and, and_true, true_implies, false_implies, not_true_eq_false, not_false_eq_true, Nat.reduceAdd, Nat.reduceLeDiff, Nat.le_add_left, Nat.zero_le, Nat.le_refl, znew, true_or, or_true, b01_t, b01_f, b01_ok, bool_ft, vp_b01, vp_b0, vp_b1, b01_eq0, b01_eq1, implies_true, nI_add, nI_clamp, zi_in, zi_le_t, zi_le_f, zi_lt_t, zi_lt_f, zi_eq_t, zi_eq_f, nI_leI, nI_ltI, nI_eq, z_in, pk_mul, zu_same, zu_rw, zu_ix, zi_ne0, zi_sub, zi_m1, Nat.add_sub_cancel, Nat.reduceMul, Nat.reduceSub]
      refine zC.of0 (zX3_tell hB f2 (by omega) (show q.1 < N by omega)) (by omega) (Nat.zero_le _) (Nat.zero_le _) ?_
      rintro _ _ ⟨rfl, S2, rfl, g1, g2⟩
      refine sX3_number_34 _ _ _ _ _ ?_
      simp (disch := omega) only [oIld, oRI, List.getElem?_cons_zero, List.getElem?_cons_succ, List.set_cons_zero, List.set_cons_succ, List.drop_succ_cons, List.drop_zero, List.take_succ_cons, List.take_zero, List.length_cons, List.length_nil, List.reverse_cons, List.reverse_nil, List.nil_append, List.cons_append, Option.toList_some, Option.toList_none, va_rf_s, true_and, and_true, true_implies, false_implies, not_true_eq_false, not_false_eq_true, Nat.reduceAdd, Nat.reduceLeDiff, Nat.le_add_left, Nat.zero_le, Nat.le_refl, znew, true_or, or_true, b01_t, b01_f, b01_ok, bool_ft, vp_b01, vp_b0, vp_b1, b01_eq0, b01_eq1, implies_true, nI_add, nI_clamp, zi_in, zi_le_t, zi_le_f, zi_lt_t, zi_lt_f, zi_eq_t, zi_eq_f, nI_leI, nI_ltI, nI_eq, z_in, pk_mul, zu_same, zu_rw, zu_ix, zi_ne0, zi_sub, zi_m1, Nat.add_sub_cancel, Nat.reduceMul, Nat.reduceSub]
      exact hVQ _ _ ⟨v, _, S2, hP', rfl, rfl, f1.tr g1, g2⟩
    · by_cases hgt : hi < v
      · rw [if_pos (Or.inr hgt)] at hP'
        refine sX3_number_14 _ _ _ _ _ ?_
        simp (disch := omega) only [oAld, oCV, oIfc, oIld, oIst, oPush, hB.pk, List.getElem?_cons_zero, List.getElem?_cons_succ, List.set_cons_zero, List.set_cons_succ, List.drop_succ_cons, List.drop_zero, List.take_succ_cons, List.take_zero, List.length_cons, List.length_nil, List.reverse_cons, List.reverse_nil, List.nil_append, List.cons_append, Option.toList_some, Option.toList_none, va_rf_s, true_and, and_true, true_implies, false_implies, not_true_eq_false, not_false_eq_true, Nat.reduceAdd, Nat.reduceLeDiff, Nat.le_add_left, Nat.zero_le, Nat.le_refl, znew, true_or, or_true, b01_t, b01_f, b01_ok, bool_ft, vp_b01, vp_b0, vp_b1, b01_eq0, b01_eq1, implies_true, nI_add, nI_clamp, zi_in, zi_le_t, zi_le_f, zi_lt_t, zi_lt_f, zi_eq_t, zi_eq_f, nI_leI, nI_ltI, nI_eq, z_in, pk_mul, zu_same, zu_rw, zu_ix, zi_ne0, zi_sub, zi_m1, Nat.add_sub_cancel, Nat.reduceMul, Nat.reduceSub]
        refine zC.of0 (zX3_tell hB f2 (by omega) (show q.1 < N by omega)) (by omega) (Nat.zero_le _) (Nat.zero_le _) ?_
        rintro _ _ ⟨rfl, S2, rfl, g1, g2⟩
        refine sX3_number_34 _ _ _ _ _ ?_
        simp (disch := omega) only [oIld, oRI, List.getElem?_cons_zero, List.getElem?_cons_succ, List.set_cons_zero, List.set_cons_succ, List.drop_succ_cons, List.drop_zero, List.take_succ_cons, List.take_zero, List.length_cons, List.length_nil, List.reverse_cons, List.reverse_nil, List.nil_append, List.cons_append, Option.toList_some, Option.toList_none, va_rf_s, true_and, and_true, true_implies, false_implies, not_true_eq_false, not_false_eq_true, Nat.reduceAdd, Nat.reduceLeDiff, Nat.le_add_left, Nat.zero_le, Nat.le_refl, znew, true_or, or_true, b01_t, b01_f, b01_ok, bool_ft, vp_b01, vp_b0, vp_b1, b01_eq0, b01_eq1, implies_true, nI_add, nI_clamp, zi_in, zi_le_t, zi_le_f, zi_lt_t, zi_lt_f, zi_eq_t, zi_eq_f, nI_leI, nI_ltI, nI_eq, z_in, pk_mul, zu_same, zu_rw, zu_ix, zi_ne0, zi_sub, zi_m1, Nat.add_sub_cancel, Nat.reduceMul, Nat.reduceSub]
        exact hVQ _ _ ⟨v, _, S2, hP', rfl, rfl, f1.tr g1, g2⟩
      · rw [if_neg (by omega)] at hP'
        refine sX3_number_14 _ _ _ _ _ ?_
        simp (disch := omega) only [oAld, oCV, oIfc, oIld, oIst, oPush, hB.pk, List.getElem?_cons_zero, List.getElem?_cons_succ, List.set_cons_zero, List.set_cons_succ, List.drop_succ_cons, List.drop_zero, List.take_succ_cons, List.take_zero, List.length_cons, List.length_nil, List.reverse_cons, List.reverse_nil, List.nil_append, List.cons_append, Option.toList_some, Option.toList_none, va_rf_s, true_and, and_true, true_implies, false_implies, not_true_eq_false, not_false_eq_true, Nat.reduceAdd, Nat.reduceLeDiff, Nat.le_add_left, Nat.zero_le, Nat.le_refl, znew, true_or, or_true, b01_t, b01_f, b01_ok, bool_ft, vp_b01, vp_b0, vp_b1, b01_eq0, b01_eq1, implies_true, nI_add, nI_clamp, zi_in, zi_le_t, zi_le_f, zi_lt_t, zi_lt_f, zi_eq_t, zi_eq_f, nI_leI, nI_ltI, nI_eq, z_in, pk_mul, zu_same, zu_rw, zu_ix, zi_ne0, zi_sub, zi_m1, Nat.add_sub_cancel, Nat.reduceMul, Nat.reduceSub]
        refine sX3_number_34 _ _ _ _ _ ?_
        simp (disch := omega) only [oIld, oRI, List.getElem?_cons_zero, List.getElem?_cons_succ, List.set_cons_zero, List.set_cons_succ, List.drop_succ_cons, List.drop_zero, List.take_succ_cons, List.take_zero, List.length_cons, List.length_nil, List.reverse_cons, List.reverse_nil, List.nil_append, List.cons_append, Option.toList_some, Option.toList_none, va_rf_s, true_and, and_true, true_implies, false_implies, not_true_eq_false, not_false_eq_true, Nat.reduceAdd, Nat.reduceLeDiff, Nat.le_add_left, Nat.zero_le, Nat.le_refl, znew, true_or, or_true, b01_t, b01_f, b01_ok, bool_ft, vp_b01, vp_b0, vp_b1, b01_eq0, b01_eq1, implies_true, nI_add, nI_clamp, zi_in, zi_le_t, zi_le_f, zi_lt_t, zi_lt_f, zi_eq_t, zi_eq_f, nI_leI, nI_ltI, nI_eq, z_in, pk_mul, zu_same, zu_rw, zu_ix, zi_ne0, zi_sub, zi_m1, Nat.add_sub_cancel, Nat.reduceMul, Nat.reduceSub]
        exact hVQ _ _ ⟨v, _, S', hP', rfl, rfl, f1, f2⟩
  · rintro _ _ ⟨e, S', e1, rfl, rfl, f1, f2⟩
    refine ⟨hVX _ _ ⟨e, S', ?_, rfl, rfl, f1, f2⟩, by omega, by omega⟩
    unfold pMust at e1
    unfold pNum
    split at e1
    · rename_i hk; rw [if_pos hk, e1]; rfl
    · rename_i hk; rw [if_neg hk]
      cases e1; rfl
end FA
