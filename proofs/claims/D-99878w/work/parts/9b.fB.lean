/-! the component's parser: sums -/
/-- the heap grows; of what stood only the parser's and the fault's numbers change -/
def pG (c : Nat) (X X' : zX) : Prop := X.1 ≤ X'.1 ∧ ∀ a, a < X.1 → X'.2.1 a = X.2.1 a ∧ (a ≠ c + 9 → a ≠ c + 1 → X'.2.2.1 a = X.2.2.1 a) ∧ X'.2.2.2 a = X.2.2.2 a
theorem pG.rf {c : Nat} {X : zX} : pG c X X := ⟨Nat.le_refl _, fun _ _ => ⟨rfl, fun _ _ => rfl, rfl⟩⟩
theorem pG.tr {c : Nat} {X X' X'' : zX} (h : pG c X X') (h' : pG c X' X'') : pG c X X'' := ⟨Nat.le_trans h.1 h'.1, fun a ha => by
  obtain ⟨a1, a2, a3⟩ := h.2 a ha
  obtain ⟨b1, b2, b3⟩ := h'.2 a (Nat.lt_of_lt_of_le ha h.1)
  exact ⟨b1.trans a1, fun q1 q2 => (b2 q1 q2).trans (a2 q1 q2), b3.trans a3⟩⟩
theorem pG.s {c z : Nat} {h : Nat → Option zSh} {S S' : Nat → Nat → Int32} {L : Nat → Nat → Int64} (hF : pFs c S S') : pG c (z, h, S, L) (z, h, S', L) := ⟨Nat.le_refl _, fun a _ => ⟨rfl, fun h1 h2 => hF a h1 h2, rfl⟩⟩
theorem pG.n {c z : Nat} {h : Nat → Option zSh} {S : Nat → Nat → Int32} {L : Nat → Nat → Int64} {q : zSh} : pG c (z, h, S, L) (z + 1, hN h z q, SN S z, LN L z) := ⟨Nat.le_succ _, fun a ha => by
  have ha' : a < z := ha
  exact ⟨hN_o (by omega), fun _ _ => SN_o (by omega), LN_o (by omega)⟩⟩
theorem pG.w {c : Nat} {X X' : zX} (h : gw (fun _ => False) X X') : pG c X X' := ⟨h.1, fun a ha => ⟨((h.2 a ha).1 (fun x => x)).1, fun _ _ => ((h.2 a ha).1 (fun x => x)).2, (h.2 a ha).2⟩⟩
theorem pX.g {c : Nat} {X X' : zX} {P : List Int32} {A : List zTk} {N : Nat} (hX : pX c X.1 X.2.1 X.2.2.1 P A N) (hG : pG c X X') : pX c X'.1 X'.2.1 X'.2.2.1 P A N := by
  obtain ⟨a1, a2, a3, a4, a5, a6, a7, a8⟩ := hX
  have hs : ∀ k, k < 606 → X'.2.1 (c + k) = X.2.1 (c + k) := fun k hk => (hG.2 _ (by omega)).1
  have hS : ∀ k, k < 9 → k ≠ 1 → X'.2.2.1 (c + k) = X.2.2.1 (c + k) := fun k hk h1 => (hG.2 _ (by omega)).2.1 (by omega) (by omega)
  refine ⟨a1.fr (fun a h1 h2 _ _ => ?_) ⟨by unfold zt; rw [show X'.2.1 c = X.2.1 c from hs 0 (by omega)], fun k _ => by unfold zr; rw [show X'.2.1 c = X.2.1 c from hs 0 (by omega)]⟩ ⟨by unfold zt; rw [hs 9 (by omega)], fun k _ => by unfold zr; rw [hs 9 (by omega)]⟩, Nat.le_trans a2 hG.1, ⟨by rw [hS 2 (by omega) (by omega)]; exact a3.1, a3.2.1, fun i hi => by rw [hS 4 (by omega) (by omega)]; exact a3.2.2 i hi⟩, a4, a5, fun j hj => ?_, a7, a8⟩
  · have := hs (a - c) (by omega)
    rw [show c + (a - c) = a by omega] at this; exact this
  · rw [hS 5 (by omega) (by omega), hS 6 (by omega) (by omega), hS 7 (by omega) (by omega), hS 8 (by omega) (by omega)]; exact a6 j hj
theorem pI.n {c z : Nat} {S : Nat → Nat → Int32} {N : Nat} {q : zCu} {o : Nat} (hI : pI c S N q o) (hcz : c + 606 ≤ z) : pI c (SN S z) N q o := by
  unfold pI at hI ⊢
  rw [SN_o (show c + 9 ≠ z by omega)]; exact hI
theorem pG.new {c z : Nat} {h : Nat → Option zSh} {S S1 S' : Nat → Nat → Int32} {L : Nat → Nat → Int64} {q : zSh} (f1 : pFs c S S1) (hS : ∀ a, a < z → S' a = S1 a) : pG c (z, h, S, L) (z + 1, hN h z q, S', LN L z) := ⟨Nat.le_succ _, fun a ha => by
  have ha' : a < z := ha
  exact ⟨hN_o (by omega), fun h1 h2 => (hS a ha').trans (f1 a h1 h2), LN_o (by omega)⟩⟩
theorem pI.r {c : Nat} {S S' : Nat → Nat → Int32} {N : Nat} {q : zCu} {o : Nat} (hI : pI c S N q o) (hS : S' (c + 9) = S (c + 9)) : pI c S' N q o := by
  unfold pI at hI ⊢
  rw [hS]; exact hI
theorem isSum.up {h : Nat → Option zSh} {S : Nat → Nat → Int32} {ok : Nat → Prop} : ∀ {d a : Nat} {cl : zCd}, isSum h S ok d a cl → isSum h S ok (d + 1) a cl
  | 0, _, _, hs => hs.elim
  | d + 1, a, cl, hs => by
    obtain ⟨h0, h1 | h1 | ⟨t, o, a1, a2, c1, c2, q1, q2, q3, q4, q5, q6, q7⟩⟩ := hs
    · exact ⟨h0, Or.inl h1⟩
    · exact ⟨h0, Or.inr (Or.inl h1)⟩
    · exact ⟨h0, Or.inr (Or.inr ⟨t, o, a1, a2, c1, c2, q1, q2, q3, q4, q5.up, q6.up, q7⟩)⟩
theorem isSum.le {h : Nat → Option zSh} {S : Nat → Nat → Int32} {ok : Nat → Prop} {d a : Nat} {cl : zCd} (hs : isSum h S ok d a cl) : ∀ {d' : Nat}, d ≤ d' → isSum h S ok d' a cl := by
  intro d' hd
  obtain ⟨k, rfl⟩ : ∃ k, d' = d + k := ⟨d' - d, by omega⟩
  clear hd
  induction k with
  | zero => exact hs
  | succ k ih => exact ih.up
/-- how far a reading goes -/
def mx {α : Type} (res : zPR (α × zCu)) : Nat := match res with
  | .ok r => r.2.1
  | .error _ => 401
theorem mx_pB {α β : Type} {x : zPR (α × zCu)} {f : α × zCu → zPR (β × zCu)} (h : ∀ r, x = .ok r → r.2.1 ≤ mx (f r)) : mx x ≤ mx (pB x f) := by
  cases x with
  | error e => exact Nat.le_refl _
  | ok r => exact h r rfl
theorem mx_rd {u : zRd} (hu : rdOk u) {q : zCu} (hq : q.1 ≤ 400) : q.1 ≤ mx (u q) := by
  cases h : u q with
  | error e => show q.1 ≤ 401; omega
  | ok r => have := (hu q r.1 r.2 h hq).1; show q.1 ≤ r.2.1; omega
theorem mx_L {A : List zTk} {k1 k2 : Nat} {u : zRd} (hu : rdOk u) {f : Nat} {c : zCd} {q : zCu} (hq : q.1 ≤ 400) (h1 : one1 c) : q.1 ≤ mx (rdL A k1 k2 u f c q) := by
  cases h : rdL A k1 k2 u f c q with
  | error e => show q.1 ≤ 401; omega
  | ok r => have := (rdL_ok hu f c q r.1 r.2 h hq h1).1; show q.1 ≤ r.2.1; omega
section FB
variable {l : Launch} {E : zE} {z : Nat} {h : Nat → Option zSh} {S : Nat → Nat → Int32} {L : Nat → Nat → Int64} {c : Nat} {P : List Int32} {A : List zTk} {N : Nat} {q : zCu} {o : Nat}
def exQ (z : Nat) (h : Nat → Option zSh) (S : Nat → Nat → Int32) (L : Nat → Nat → Int64) (c N o : Nat) (q : zCu) (res : zPR (zCd × zCu)) : Option Value → zX → Prop := fun r X => ∃ cd q' a z' h' S' L', res = .ok (cd, q') ∧ r = some (.ref a) ∧ X = (z', h', S', L') ∧ pG c (z, h, S, L) (z', h', S', L') ∧ pI c S' N q' o ∧ isSum h' S' (fun b => z ≤ b ∧ b < z') (q'.1 - q.1) a cd
def exT {α : Type} (z : Nat) (h : Nat → Option zSh) (S : Nat → Nat → Int32) (L : Nat → Nat → Int64) (c : Nat) (res : zPR α) : Nat → zX → Prop := fun a X => ∃ e z' h' S' L', res = .error e ∧ a = c + 1 ∧ X = (z', h', S', L') ∧ pG c (z, h, S, L) (z', h', S', L') ∧ cE c S' e
/-- a reader of sums is met by the method Y -/
def exM (l : Launch) (E : zE) (d : Nat) (Y : zY) (c : Nat) (P : List Int32) (A : List zTk) (N o : Nat) (u : zRd) : Prop := ∀ z h S L q, pX c z h S P A N → pI c S N q o → zM l E d Y [.ref (c + 9)] (z, h, S, L) (6 * (mx (u q) - q.1)) (40 * (mx (u q) - q.1)) (exQ z h S L c N o q (u q)) (exT z h S L c (u q))
theorem zX12_init {a : Nat} (X : zX) : zM l E 1 YX12_init [.ref a] X 0 0 (fun r X' => r = none ∧ X' = X) (fun _ _ => False) := by
  refine zM.go rfl rfl (Nat.le_of_ble_eq_true rfl) (ls := [some (.ref a)]) rfl ?_
  intro V hVl hVE hVd hVc hVs hVQ hVX
  refine sX12_init_0 (by omega) _ _ _ _ _ ?_
  simp (disch := omega) only [oAld, oObj, oRV, List.getElem?_cons_zero, List.getElem?_cons_succ, List.set_cons_zero, List.set_cons_succ, List.drop_succ_cons, List.drop_zero, List.take_succ_cons, List.take_zero, List.length_cons, List.length_nil, List.reverse_cons, List.reverse_nil, List.nil_append, List.cons_append, Option.toList_some, Option.toList_none, va_rf_s, true_and, and_true, true_implies, false_implies, not_true_eq_false, not_false_eq_true, Nat.reduceAdd, Nat.reduceLeDiff, Nat.le_add_left, Nat.zero_le, Nat.le_refl, znew, true_or, or_true, b01_t, b01_f, b01_ok, bool_ft, vp_b01, vp_b0, vp_b1, b01_eq0, b01_eq1, implies_true, nI_add, nI_clamp, zi_in, zi_le_t, zi_le_f, zi_lt_t, zi_lt_f, zi_eq_t, zi_eq_f, nI_leI, nI_ltI, nI_eq, z_in, pk_mul, zu_same, zu_rw, zu_ix, zi_ne0, zi_sub, zi_m1, Nat.add_sub_cancel, Nat.reduceMul, Nat.reduceSub]
  exact hVQ _ _ ⟨rfl, rfl⟩
theorem zX13_init {a : Nat} {v : Int32} (ht : zt h a = 33) : zM l E 2 YX13_init [.ref a, .int v] (z, h, S, L) 0 0 (fun r X' => r = none ∧ X' = (z, h, zu S a 0 v, L)) (fun _ _ => False) := by
  refine zM.go rfl rfl (Nat.le_of_ble_eq_true rfl) (ls := [some (.ref a), some (.int v)]) rfl ?_
  intro V hVl hVE hVd hVc hVs hVQ hVX
  refine sX13_init_0 _ _ _ _ _ ?_
  simp (disch := omega) only [oAld, oCI, List.getElem?_cons_zero, List.getElem?_cons_succ, List.set_cons_zero, List.set_cons_succ, List.drop_succ_cons, List.drop_zero, List.take_succ_cons, List.take_zero, List.length_cons, List.length_nil, List.reverse_cons, List.reverse_nil, List.nil_append, List.cons_append, Option.toList_some, Option.toList_none, va_rf_s, true_and, and_true, true_implies, false_implies, not_true_eq_false, not_false_eq_true, Nat.reduceAdd, Nat.reduceLeDiff, Nat.le_add_left, Nat.zero_le, Nat.le_refl, znew, true_or, or_true, b01_t, b01_f, b01_ok, bool_ft, vp_b01, vp_b0, vp_b1, b01_eq0, b01_eq1, implies_true, nI_add, nI_clamp, zi_in, zi_le_t, zi_le_f, zi_lt_t, zi_lt_f, zi_eq_t, zi_eq_f, nI_leI, nI_ltI, nI_eq, z_in, pk_mul, zu_same, zu_rw, zu_ix, zi_ne0, zi_sub, zi_m1, Nat.add_sub_cancel, Nat.reduceMul, Nat.reduceSub]
  refine zC.of0 (zX12_init _) (by omega) (Nat.zero_le _) (Nat.zero_le _) ?_
  rintro _ _ ⟨rfl, rfl⟩
  refine sX13_init_4 _ _ _ _ _ ?_
  simp (disch := omega) only [oAld, oIld, oPI, oRV, ht, List.getElem?_cons_zero, List.getElem?_cons_succ, List.set_cons_zero, List.set_cons_succ, List.drop_succ_cons, List.drop_zero, List.take_succ_cons, List.take_zero, List.length_cons, List.length_nil, List.reverse_cons, List.reverse_nil, List.nil_append, List.cons_append, Option.toList_some, Option.toList_none, va_rf_s, true_and, and_true, true_implies, false_implies, not_true_eq_false, not_false_eq_true, Nat.reduceAdd, Nat.reduceLeDiff, Nat.le_add_left, Nat.zero_le, Nat.le_refl, znew, true_or, or_true, b01_t, b01_f, b01_ok, bool_ft, vp_b01, vp_b0, vp_b1, b01_eq0, b01_eq1, implies_true, nI_add, nI_clamp, zi_in, zi_le_t, zi_le_f, zi_lt_t, zi_lt_f, zi_eq_t, zi_eq_f, nI_leI, nI_ltI, nI_eq, z_in, pk_mul, zu_same, zu_rw, zu_ix, zi_ne0, zi_sub, zi_m1, Nat.add_sub_cancel, Nat.reduceMul, Nat.reduceSub]
  exact hVQ _ _ ⟨rfl, rfl⟩
theorem zX14_init {a : Nat} {v : Int32} (ht : zt h a = 34) : zM l E 2 YX14_init [.ref a, .int v] (z, h, S, L) 0 0 (fun r X' => r = none ∧ X' = (z, h, zu S a 0 v, L)) (fun _ _ => False) := by
  refine zM.go rfl rfl (Nat.le_of_ble_eq_true rfl) (ls := [some (.ref a), some (.int v)]) rfl ?_
  intro V hVl hVE hVd hVc hVs hVQ hVX
  refine sX14_init_0 _ _ _ _ _ ?_
  simp (disch := omega) only [oAld, oCI, List.getElem?_cons_zero, List.getElem?_cons_succ, List.set_cons_zero, List.set_cons_succ, List.drop_succ_cons, List.drop_zero, List.take_succ_cons, List.take_zero, List.length_cons, List.length_nil, List.reverse_cons, List.reverse_nil, List.nil_append, List.cons_append, Option.toList_some, Option.toList_none, va_rf_s, true_and, and_true, true_implies, false_implies, not_true_eq_false, not_false_eq_true, Nat.reduceAdd, Nat.reduceLeDiff, Nat.le_add_left, Nat.zero_le, Nat.le_refl, znew, true_or, or_true, b01_t, b01_f, b01_ok, bool_ft, vp_b01, vp_b0, vp_b1, b01_eq0, b01_eq1, implies_true, nI_add, nI_clamp, zi_in, zi_le_t, zi_le_f, zi_lt_t, zi_lt_f, zi_eq_t, zi_eq_f, nI_leI, nI_ltI, nI_eq, z_in, pk_mul, zu_same, zu_rw, zu_ix, zi_ne0, zi_sub, zi_m1, Nat.add_sub_cancel, Nat.reduceMul, Nat.reduceSub]
  refine zC.of0 (zX12_init _) (by omega) (Nat.zero_le _) (Nat.zero_le _) ?_
  rintro _ _ ⟨rfl, rfl⟩
  refine sX14_init_4 _ _ _ _ _ ?_
  simp (disch := omega) only [oAld, oIld, oPI, oRV, ht, List.getElem?_cons_zero, List.getElem?_cons_succ, List.set_cons_zero, List.set_cons_succ, List.drop_succ_cons, List.drop_zero, List.take_succ_cons, List.take_zero, List.length_cons, List.length_nil, List.reverse_cons, List.reverse_nil, List.nil_append, List.cons_append, Option.toList_some, Option.toList_none, va_rf_s, true_and, and_true, true_implies, false_implies, not_true_eq_false, not_false_eq_true, Nat.reduceAdd, Nat.reduceLeDiff, Nat.le_add_left, Nat.zero_le, Nat.le_refl, znew, true_or, or_true, b01_t, b01_f, b01_ok, bool_ft, vp_b01, vp_b0, vp_b1, b01_eq0, b01_eq1, implies_true, nI_add, nI_clamp, zi_in, zi_le_t, zi_le_f, zi_lt_t, zi_lt_f, zi_eq_t, zi_eq_f, nI_leI, nI_ltI, nI_eq, z_in, pk_mul, zu_same, zu_rw, zu_ix, zi_ne0, zi_sub, zi_m1, Nat.add_sub_cancel, Nat.reduceMul, Nat.reduceSub]
  exact hVQ _ _ ⟨rfl, rfl⟩
theorem zX15_init {a x y : Nat} {v : Int32} (ht : zt h a = 35) : zM l E 2 YX15_init [.ref a, .int v, .ref x, .ref y] (z, h, S, L) 0 0 (fun r X' => r = none ∧ X' = (z, zur (zur h a 1 (some x)) a 2 (some y), zu S a 0 v, L)) (fun _ _ => False) := by
  refine zM.go rfl rfl (Nat.le_of_ble_eq_true rfl) (ls := [some (.ref a), some (.int v), some (.ref x), some (.ref y)]) rfl ?_
  intro V hVl hVE hVd hVc hVs hVQ hVX
  refine sX15_init_0 _ _ _ _ _ ?_
  simp (disch := omega) only [oAld, oCI, List.getElem?_cons_zero, List.getElem?_cons_succ, List.set_cons_zero, List.set_cons_succ, List.drop_succ_cons, List.drop_zero, List.take_succ_cons, List.take_zero, List.length_cons, List.length_nil, List.reverse_cons, List.reverse_nil, List.nil_append, List.cons_append, Option.toList_some, Option.toList_none, va_rf_s, true_and, and_true, true_implies, false_implies, not_true_eq_false, not_false_eq_true, Nat.reduceAdd, Nat.reduceLeDiff, Nat.le_add_left, Nat.zero_le, Nat.le_refl, znew, true_or, or_true, b01_t, b01_f, b01_ok, bool_ft, vp_b01, vp_b0, vp_b1, b01_eq0, b01_eq1, implies_true, nI_add, nI_clamp, zi_in, zi_le_t, zi_le_f, zi_lt_t, zi_lt_f, zi_eq_t, zi_eq_f, nI_leI, nI_ltI, nI_eq, z_in, pk_mul, zu_same, zu_rw, zu_ix, zi_ne0, zi_sub, zi_m1, Nat.add_sub_cancel, Nat.reduceMul, Nat.reduceSub]
  refine zC.of0 (zX12_init _) (by omega) (Nat.zero_le _) (Nat.zero_le _) ?_
  rintro _ _ ⟨rfl, rfl⟩
  refine sX15_init_4 _ _ _ _ _ ?_
  simp (disch := omega) only [oAld, oIld, oPI, oPR, oRV, ht, zur_t, List.getElem?_cons_zero, List.getElem?_cons_succ, List.set_cons_zero, List.set_cons_succ, List.drop_succ_cons, List.drop_zero, List.take_succ_cons, List.take_zero, List.length_cons, List.length_nil, List.reverse_cons, List.reverse_nil, List.nil_append, List.cons_append, Option.toList_some, Option.toList_none, va_rf_s, true_and, and_true, true_implies, false_implies, not_true_eq_false, not_false_eq_true, Nat.reduceAdd, Nat.reduceLeDiff, Nat.le_add_left, Nat.zero_le, Nat.le_refl, znew, true_or, or_true, b01_t, b01_f, b01_ok, bool_ft, vp_b01, vp_b0, vp_b1, b01_eq0, b01_eq1, implies_true, nI_add, nI_clamp, zi_in, zi_le_t, zi_le_f, zi_lt_t, zi_lt_f, zi_eq_t, zi_eq_f, nI_leI, nI_ltI, nI_eq, z_in, pk_mul, zu_same, zu_rw, zu_ix, zi_ne0, zi_sub, zi_m1, Nat.add_sub_cancel, Nat.reduceMul, Nat.reduceSub]
  exact hVQ _ _ ⟨rfl, rfl⟩
theorem soK_w {k : Nat} (h : 20 ≤ k) : soK k = 3 := by unfold soK; rw [if_neg (by omega), if_neg (by omega), if_neg (by omega), if_neg (by omega), if_pos h]
/-- a word's number -/
theorem pX.wd (hX : pX c z h S P A N) {j : Nat} (hj : j < N) (hk : 20 ≤ tkK A j) : S (c + 8) j = nI (tkK A j - 20) ∧ tkK A j ≤ 42 := by
  have hkk : (A.getD j tk0).1 = tkK A j := rfl
  rcases (hX.tk hj).2 with ⟨e, -⟩ | ⟨e, -⟩ | ⟨e, -, -⟩ | ⟨e, -, -⟩ | ⟨⟨e, e2⟩, -, e8⟩ | ⟨e1, -, -⟩
  · rw [hkk] at e; omega
  · rw [hkk] at e; omega
  · rw [hkk] at e; omega
  · rw [hkk] at e; omega
  · exact ⟨e8, e2⟩
  · unfold isSg at e1; rw [hkk] at e1; omega
theorem pX.nm (hX : pX c z h S P A N) {j : Nat} (hj : j < N) (hk : tkK A j = 2) : ∃ n, n ≤ 4 ∧ S (c + 7) j = nI (tkP A j + n) ∧ tkP A j + n ≤ P.length ∧ tkV A j = dgV P (tkP A j) n ∧ ∀ i, i < n → isD (by8 P (tkP A j + i)) = true := by
  have hkk : (A.getD j tk0).1 = tkK A j := rfl
  rcases (hX.tk hj).2 with ⟨e, -⟩ | ⟨e, -⟩ | ⟨e, -, -⟩ | ⟨e, -, n, t⟩ | ⟨⟨e, e2⟩, -, -⟩ | ⟨e, -, -⟩
  · rw [hkk] at e; omega
  · rw [hkk] at e; omega
  · rw [hkk] at e; omega
  · exact ⟨n, t⟩
  · rw [hkk] at e; omega
  · unfold isSg at e; rw [hkk] at e; omega
theorem zX3_unit {lv d : Nat} {sub : zRd} (hlo : lv + o = 6) (hsub : lv ≠ 0 → rdOk sub ∧ exM l E d YX3_sum c P A N (o + 1) sub) : exM l E (d + 6) YX3_unit c P A N o (rdU A lv sub) := by
  intro z h S L q hX hI
  have hB := hX.1
  have hcz := hX.2.1
  have hNl := hX.n
  obtain ⟨i3, i4, i5, i6, ⟨i7, i7'⟩, i8, i9, i10⟩ := id hI
  have hq : q.1 < N := i7'
  have hsb := soK_b (tkK A q.1)
  have hok : rdOk (rdU A lv sub) := rdU_ok (fun h0 => (hsub h0).1)
  have hmx := mx_rd hok i7
  refine zM.go rfl rfl (Nat.le_of_ble_eq_true rfl) (ls := [some (.ref (c + 9)), none]) rfl ?_
  intro V hVl hVE hVd hVc hVs hVQ hVX
  -- a fault
  have flt : ∀ (ls : List (Option Value)) (e : zFt) z' h' S' L', rdU A lv sub q = .error e → ∀ k n, k ≤ 6 * (mx (rdU A lv sub q) - q.1) → n ≤ 40 * (mx (rdU A lv sub q) - q.1) → pG c (z, h, S, L) (z', h', S', L') → cE c S' e → zOut V ls (c + 1) (z', h', S', L') k n := by
    intro ls e z' h' S' L' h1 k n hk hn f1 f2
    exact ⟨hVX _ _ ⟨e, z', h', S', L', h1, rfl, rfl, f1, f2⟩, by rw [hVc]; exact hk, by rw [hVs]; exact hn⟩
  refine sX3_unit_0 _ _ _ _ _ ?_
  simp (disch := omega) only [oAld, oCV, hB.pk, List.getElem?_cons_zero, List.getElem?_cons_succ, List.set_cons_zero, List.set_cons_succ, List.drop_succ_cons, List.drop_zero, List.take_succ_cons, List.take_zero, List.length_cons, List.length_nil, List.reverse_cons, List.reverse_nil, List.nil_append, List.cons_append, Option.toList_some, Option.toList_none, va_rf_s, true_and, and_true, true_implies, false_implies, not_true_eq_false, not_false_eq_true, Nat.reduceAdd, Nat.reduceLeDiff, Nat.le_add_left, Nat.zero_le, Nat.le_refl, znew, true_or, or_true, b01_t, b01_f, b01_ok, bool_ft, vp_b01, vp_b0, vp_b1, b01_eq0, b01_eq1, implies_true, nI_add, nI_clamp, zi_in, zi_le_t, zi_le_f, zi_lt_t, zi_lt_f, zi_eq_t, zi_eq_f, nI_leI, nI_ltI, nI_eq, z_in, pk_mul, zu_same, zu_rw, zu_ix, zi_ne0, zi_sub, zi_m1, Nat.add_sub_cancel, Nat.reduceMul, Nat.reduceSub]
  refine zC.of (zX3_sort hX hI) (by omega) (by omega) (by omega) ?_ ?_
  · rintro _ _ ⟨h3, rfl, rfl⟩
    by_cases h2 : tkK A q.1 = 2
    · -- a number
      have es : (nI (soK (tkK A q.1)) = nI 1) = True := eq_true (by rw [soK_inj.2.1.mpr h2])
      have hU : rdU A lv sub q = pB (pGo A q) (fun q' => .ok ([(0, nI (tkV A q.1))], q')) := by unfold rdU; rw [if_pos h2]
      refine sX3_unit_4 _ _ _ _ _ ?_
      simp (disch := omega) only [oAld, oCV, oIfc, oPush, hB.pk, es, List.getElem?_cons_zero, List.getElem?_cons_succ, List.set_cons_zero, List.set_cons_succ, List.drop_succ_cons, List.drop_zero, List.take_succ_cons, List.take_zero, List.length_cons, List.length_nil, List.reverse_cons, List.reverse_nil, List.nil_append, List.cons_append, Option.toList_some, Option.toList_none, va_rf_s, true_and, and_true, true_implies, false_implies, not_true_eq_false, not_false_eq_true, Nat.reduceAdd, Nat.reduceLeDiff, Nat.le_add_left, Nat.zero_le, Nat.le_refl, znew, true_or, or_true, b01_t, b01_f, b01_ok, bool_ft, vp_b01, vp_b0, vp_b1, b01_eq0, b01_eq1, implies_true, nI_add, nI_clamp, zi_in, zi_le_t, zi_le_f, zi_lt_t, zi_lt_f, zi_eq_t, zi_eq_f, nI_leI, nI_ltI, nI_eq, z_in, pk_mul, zu_same, zu_rw, zu_ix, zi_ne0, zi_sub, zi_m1, Nat.add_sub_cancel, Nat.reduceMul, Nat.reduceSub]
      refine zC.of (zX3_pass hX hI (hX.nx hq (by omega) (by omega))) (by omega) (by omega) (by omega) ?_ ?_
      · rintro _ _ ⟨rfl, q1, S1, e1, rfl, f1, f2⟩
        obtain ⟨eq1, h400⟩ := cGo_ok e1
        subst eq1
        have hR : rdU A lv sub q = .ok ([(0, nI (tkV A q.1))], q.1 + 1, q.2) := by rw [hU, e1]; rfl
        have hm : mx (rdU A lv sub q) - q.1 = 1 := by rw [hR]; show q.1 + 1 - q.1 = 1; omega
        rw [hm] at hVc hVs
        have hX1 := (hX.fs f1)
        have hX2 : pX c (z + 1) (hN h z (33, 0, fun _ => none)) (SN S1 z) P A N := hX1.g (X := (z, h, S1, L)) (X' := (z + 1, hN h z (33, 0, fun _ => none), SN S1 z, LN L z)) pG.n
        obtain ⟨n, n4, t7, t8, t9, t10⟩ := hX2.nm hq h2
        have i31 : SN S1 z (c + 9) 3 = nI (q.1 + 1) := by rw [SN_o (by omega)]; exact f2.1
        have hB := hX2.1
        refine sX3_unit_12 _ _ _ _ _ ?_
        simp (disch := omega) only [oAld, oBin, oCV, oDup, oGI, oGR, oNew, oPush, hB.pk, hB.pr0, hB.tk, i31, hVc, hVs, List.getElem?_cons_zero, List.getElem?_cons_succ, List.set_cons_zero, List.set_cons_succ, List.drop_succ_cons, List.drop_zero, List.take_succ_cons, List.take_zero, List.length_cons, List.length_nil, List.reverse_cons, List.reverse_nil, List.nil_append, List.cons_append, Option.toList_some, Option.toList_none, va_rf_s, true_and, and_true, true_implies, false_implies, not_true_eq_false, not_false_eq_true, Nat.reduceAdd, Nat.reduceLeDiff, Nat.le_add_left, Nat.zero_le, Nat.le_refl, true_or, or_true, b01_t, b01_f, b01_ok, bool_ft, vp_b01, vp_b0, vp_b1, b01_eq0, b01_eq1, implies_true, zneq, hN_ts, hN_to, hN_ns, hN_no, hN_rs, hN_ro, SN_s, SN_o, zur_t, zur_n, zur_rs, zur_rk, zur_ro, nI_add, nI_clamp, zi_in, zi_le_t, zi_le_f, zi_lt_t, zi_lt_f, zi_eq_t, zi_eq_f, nI_leI, nI_ltI, nI_eq, z_in, pk_mul, zu_same, zu_rw, zu_ix, zi_ne0, zi_sub, zi_m1, Nat.add_sub_cancel, Nat.reduceMul, Nat.reduceSub]
        refine zC.ofN (zX2_number hB hX2.2.2.1 hX.2.2.2.1 (by omega) (hX2.pl hq).1 t7 n4 t8 t10) (by omega) (by omega) (by omega) ?_
        rintro _ _ ⟨rfl, rfl⟩
        refine sX3_unit_29 _ _ _ _ _ ?_
        simp (disch := omega) only [oCI, List.getElem?_cons_zero, List.getElem?_cons_succ, List.set_cons_zero, List.set_cons_succ, List.drop_succ_cons, List.drop_zero, List.take_succ_cons, List.take_zero, List.length_cons, List.length_nil, List.reverse_cons, List.reverse_nil, List.nil_append, List.cons_append, Option.toList_some, Option.toList_none, va_rf_s, true_and, and_true, true_implies, false_implies, not_true_eq_false, not_false_eq_true, Nat.reduceAdd, Nat.reduceLeDiff, Nat.le_add_left, Nat.zero_le, Nat.le_refl, znew, true_or, or_true, b01_t, b01_f, b01_ok, bool_ft, vp_b01, vp_b0, vp_b1, b01_eq0, b01_eq1, implies_true, nI_add, nI_clamp, zi_in, zi_le_t, zi_le_f, zi_lt_t, zi_lt_f, zi_eq_t, zi_eq_f, nI_leI, nI_ltI, nI_eq, z_in, pk_mul, zu_same, zu_rw, zu_ix, zi_ne0, zi_sub, zi_m1, Nat.add_sub_cancel, Nat.reduceMul, Nat.reduceSub]
        refine zC.ofN (zX13_init hN_ts) (by omega) (by omega) (by omega) ?_
        rintro _ _ ⟨rfl, rfl⟩
        refine sX3_unit_32 _ _ _ _ _ ?_
        simp (disch := omega) only [oRA, hVc, hVs, List.getElem?_cons_zero, List.getElem?_cons_succ, List.set_cons_zero, List.set_cons_succ, List.drop_succ_cons, List.drop_zero, List.take_succ_cons, List.take_zero, List.length_cons, List.length_nil, List.reverse_cons, List.reverse_nil, List.nil_append, List.cons_append, Option.toList_some, Option.toList_none, va_rf_s, true_and, and_true, true_implies, false_implies, not_true_eq_false, not_false_eq_true, Nat.reduceAdd, Nat.reduceLeDiff, Nat.le_add_left, Nat.zero_le, Nat.le_refl, znew, true_or, or_true, b01_t, b01_f, b01_ok, bool_ft, vp_b01, vp_b0, vp_b1, b01_eq0, b01_eq1, implies_true, nI_add, nI_clamp, zi_in, zi_le_t, zi_le_f, zi_lt_t, zi_lt_f, zi_eq_t, zi_eq_f, nI_leI, nI_ltI, nI_eq, z_in, pk_mul, zu_same, zu_rw, zu_ix, zi_ne0, zi_sub, zi_m1, Nat.add_sub_cancel, Nat.reduceMul, Nat.reduceSub]
        refine hVQ _ _ ⟨_, _, z, z + 1, _, _, _, hR, rfl, rfl, ?_, ?_, ?_⟩
        · exact pG.new f1 (fun a ha => by rw [zu_rw _ _ (by omega), SN_o (by omega)])
        · exact f2.r (by rw [zu_rw _ _ (by omega), SN_o (by omega)])
        · rw [show (q.1 + 1, q.2).1 - q.1 = 0 + 1 from by show q.1 + 1 - q.1 = 1; omega]
          exact ⟨⟨Nat.le_refl _, by omega⟩, Or.inl ⟨hN_ts, by rw [zu_same, t9]⟩⟩
      · rintro _ _ ⟨e, S', e1, rfl, rfl, f1, f2⟩
        exact flt _ e _ _ _ _ (by rw [hU, e1]; rfl) _ _ (by omega) (by omega) (pG.s f1) f2
    · have es : (nI (soK (tkK A q.1)) = nI 1) = False := eq_false (fun x => h2 (soK_inj.2.1.mp (by rw [nI_eq (by omega) (by omega)] at x; exact x)))
      refine sX3_unit_4 _ _ _ _ _ ?_
      simp (disch := omega) only [oAld, oCV, oIfc, oPush, hB.pk, es, List.getElem?_cons_zero, List.getElem?_cons_succ, List.set_cons_zero, List.set_cons_succ, List.drop_succ_cons, List.drop_zero, List.take_succ_cons, List.take_zero, List.length_cons, List.length_nil, List.reverse_cons, List.reverse_nil, List.nil_append, List.cons_append, Option.toList_some, Option.toList_none, va_rf_s, true_and, and_true, true_implies, false_implies, not_true_eq_false, not_false_eq_true, Nat.reduceAdd, Nat.reduceLeDiff, Nat.le_add_left, Nat.zero_le, Nat.le_refl, znew, true_or, or_true, b01_t, b01_f, b01_ok, bool_ft, vp_b01, vp_b0, vp_b1, b01_eq0, b01_eq1, implies_true, nI_add, nI_clamp, zi_in, zi_le_t, zi_le_f, zi_lt_t, zi_lt_f, zi_eq_t, zi_eq_f, nI_leI, nI_ltI, nI_eq, z_in, pk_mul, zu_same, zu_rw, zu_ix, zi_ne0, zi_sub, zi_m1, Nat.add_sub_cancel, Nat.reduceMul, Nat.reduceSub]
      refine zC.of (zX3_sort hX hI) (by omega) (by omega) (by omega) ?_ ?_
      · rintro _ _ ⟨-, rfl, rfl⟩
        -- no word of those
        have par : ¬ (34 ≤ tkK A q.1 ∧ tkK A q.1 ≤ 42) → zC V YX3_isSign [.ref (c + 9), .int (nI 40)] (z, h, S, L) 0 0 (fun v X' k' n' => zW V YX3_unit 93 [some (.ref (c + 9)), none] (v.toList ++ []) X' k' n') (zOut V [some (.ref (c + 9)), none]) := by
          intro hv
          have hs6 : isSg 6 := ⟨by omega, by omega, by omega, by omega, by omega⟩
          refine zC.of0 (zX3_isSign (k := 6) hX hI hs6) (by omega) (Nat.zero_le _) (Nat.zero_le _) ?_
          rintro _ _ ⟨rfl, rfl⟩
          by_cases h6 : tkK A q.1 = 6
          · rw [decide_eq_true h6]
            by_cases h0 : lv = 0
            · have ho : o = 6 := by omega
              rw [ho] at i4
              have hR : rdU A lv sub q = pErr A 2 q.1 := by unfold rdU; rw [if_neg h2, if_neg hv, if_pos h6, if_pos h0]
              refine sX3_unit_93 _ _ _ _ _ ?_
              simp (disch := omega) only [oAld, oBin, oCV, oDup, oGI, oIf, oIfc, oPI, oPush, hB.pk, i4, List.getElem?_cons_zero, List.getElem?_cons_succ, List.set_cons_zero, List.set_cons_succ, List.drop_succ_cons, List.drop_zero, List.take_succ_cons, List.take_zero, List.length_cons, List.length_nil, List.reverse_cons, List.reverse_nil, List.nil_append, List.cons_append, Option.toList_some, Option.toList_none, va_rf_s, true_and, and_true, true_implies, false_implies, not_true_eq_false, not_false_eq_true, Nat.reduceAdd, Nat.reduceLeDiff, Nat.le_add_left, Nat.zero_le, Nat.le_refl, znew, true_or, or_true, b01_t, b01_f, b01_ok, bool_ft, vp_b01, vp_b0, vp_b1, b01_eq0, b01_eq1, implies_true, nI_add, nI_clamp, zi_in, zi_le_t, zi_le_f, zi_lt_t, zi_lt_f, zi_eq_t, zi_eq_f, nI_leI, nI_ltI, nI_eq, z_in, pk_mul, zu_same, zu_rw, zu_ix, zi_ne0, zi_sub, zi_m1, Nat.add_sub_cancel, Nat.reduceMul, Nat.reduceSub]
              refine zC.of0 (zX3_wrong hX hI (by omega)) (by omega) (Nat.zero_le _) (Nat.zero_le _) ?_
              rintro _ _ ⟨rfl, S', rfl, f1, f2⟩
              refine sX3_unit_116 _ _ _ _ _ ?_
              simp (disch := omega) only [oThrow, hB.fk, List.getElem?_cons_zero, List.getElem?_cons_succ, List.set_cons_zero, List.set_cons_succ, List.drop_succ_cons, List.drop_zero, List.take_succ_cons, List.take_zero, List.length_cons, List.length_nil, List.reverse_cons, List.reverse_nil, List.nil_append, List.cons_append, Option.toList_some, Option.toList_none, va_rf_s, true_and, and_true, true_implies, false_implies, not_true_eq_false, not_false_eq_true, Nat.reduceAdd, Nat.reduceLeDiff, Nat.le_add_left, Nat.zero_le, Nat.le_refl, znew, true_or, or_true, b01_t, b01_f, b01_ok, bool_ft, vp_b01, vp_b0, vp_b1, b01_eq0, b01_eq1, implies_true, nI_add, nI_clamp, zi_in, zi_le_t, zi_le_f, zi_lt_t, zi_lt_f, zi_eq_t, zi_eq_f, nI_leI, nI_ltI, nI_eq, z_in, pk_mul, zu_same, zu_rw, zu_ix, zi_ne0, zi_sub, zi_m1, Nat.add_sub_cancel, Nat.reduceMul, Nat.reduceSub]
              exact flt _ _ _ _ _ _ hR _ _ (by omega) (by omega) (pG.s f1) f2
            · obtain ⟨hso, hsm⟩ := hsub h0
              have hR : rdU A lv sub q = pB (pGo A q) (fun q1 => pB (sub q1) (fun r => pB (pMust A 7 r.2) (fun q3 => .ok (r.1, q3)))) := by unfold rdU; rw [if_neg h2, if_neg hv, if_pos h6, if_neg h0]
              have hF0 : pFs c S (zu S (c + 9) 4 (nI (o + 1))) := fun a h1 _ => zu_rw _ _ h1
              have hI0 : pI c (zu S (c + 9) 4 (nI (o + 1))) N q (o + 1) := by
                refine ⟨?_, zu_same _ _ _ _, ?_, fun h0 => ?_, ⟨i7, i7'⟩, i8, i9, by omega⟩
                · rw [zu_ix _ _ (by omega)]; exact i3
                · rw [zu_ix _ _ (by omega)]; exact i5
                · rw [zu_ix _ _ (by omega)]; exact i6 h0
              refine sX3_unit_93 _ _ _ _ _ ?_
              simp (disch := omega) only [oAld, oBin, oCV, oDup, oGI, oIf, oIfc, oPI, oPush, hB.pk, i4, List.getElem?_cons_zero, List.getElem?_cons_succ, List.set_cons_zero, List.set_cons_succ, List.drop_succ_cons, List.drop_zero, List.take_succ_cons, List.take_zero, List.length_cons, List.length_nil, List.reverse_cons, List.reverse_nil, List.nil_append, List.cons_append, Option.toList_some, Option.toList_none, va_rf_s, true_and, and_true, true_implies, false_implies, not_true_eq_false, not_false_eq_true, Nat.reduceAdd, Nat.reduceLeDiff, Nat.le_add_left, Nat.zero_le, Nat.le_refl, znew, true_or, or_true, b01_t, b01_f, b01_ok, bool_ft, vp_b01, vp_b0, vp_b1, b01_eq0, b01_eq1, implies_true, nI_add, nI_clamp, zi_in, zi_le_t, zi_le_f, zi_lt_t, zi_lt_f, zi_eq_t, zi_eq_f, nI_leI, nI_ltI, nI_eq, z_in, pk_mul, zu_same, zu_rw, zu_ix, zi_ne0, zi_sub, zi_m1, Nat.add_sub_cancel, Nat.reduceMul, Nat.reduceSub]
              refine zC.of (zX3_pass (hX.fs hF0) hI0 (hX.nx hq (by omega) (by omega))) (by omega) (by omega) (by omega) ?_ ?_
              · rintro _ _ ⟨rfl, q1, S1, e1, rfl, f1, f2⟩
                obtain ⟨eq1, h400⟩ := cGo_ok e1
                subst eq1
                rw [e1] at hR
                have hR : rdU A lv sub q = pB (sub (q.1 + 1, q.2)) (fun r => pB (pMust A 7 r.2) (fun q3 => .ok (r.1, q3))) := hR
                have hq1 : (q.1 + 1, q.2).1 ≤ 400 := by show q.1 + 1 ≤ 400; omega
                have hX1 := hX.fs (hF0.tr f1)
                have hM1 := hsm z h S1 L (q.1 + 1, q.2) hX1 f2
                have hmono : mx (sub (q.1 + 1, q.2)) ≤ mx (rdU A lv sub q) := by
                  rw [hR]
                  refine mx_pB (fun r hr => ?_)
                  have hr1 := (hso _ r.1 r.2 hr hq1).1
                  cases hm : pMust A 7 r.2 with
                  | error e => show r.2.1 ≤ 401; omega
                  | ok q3 => have := (cMust_ok hm).1; show r.2.1 ≤ q3.1; rw [this]; show _ ≤ r.2.1 + 1; omega
                have hge := mx_rd hso hq1
                rw [← hVl, ← hVE] at hM1
                refine sX3_unit_131 _ _ _ _ _ ?_
                simp (disch := omega) only [oAld, oCV, hB.pk, List.getElem?_cons_zero, List.getElem?_cons_succ, List.set_cons_zero, List.set_cons_succ, List.drop_succ_cons, List.drop_zero, List.take_succ_cons, List.take_zero, List.length_cons, List.length_nil, List.reverse_cons, List.reverse_nil, List.nil_append, List.cons_append, Option.toList_some, Option.toList_none, va_rf_s, true_and, and_true, true_implies, false_implies, not_true_eq_false, not_false_eq_true, Nat.reduceAdd, Nat.reduceLeDiff, Nat.le_add_left, Nat.zero_le, Nat.le_refl, znew, true_or, or_true, b01_t, b01_f, b01_ok, bool_ft, vp_b01, vp_b0, vp_b1, b01_eq0, b01_eq1, implies_true, nI_add, nI_clamp, zi_in, zi_le_t, zi_le_f, zi_lt_t, zi_lt_f, zi_eq_t, zi_eq_f, nI_leI, nI_ltI, nI_eq, z_in, pk_mul, zu_same, zu_rw, zu_ix, zi_ne0, zi_sub, zi_m1, Nat.add_sub_cancel, Nat.reduceMul, Nat.reduceSub]
                refine zC.of hM1 (by omega) (by omega) (by omega) ?_ ?_
                · rintro _ _ ⟨cd, q2, a, z2, h2', S2, L2, e2, rfl, rfl, g2, p2, t2⟩
                  rw [e2] at hR hmono hge
                  have hR : rdU A lv sub q = pB (pMust A 7 q2) (fun q3 => .ok (cd, q3)) := hR
                  have hmono : q2.1 ≤ mx (rdU A lv sub q) := hmono
                  have hge : q.1 + 1 ≤ q2.1 := hge
                  have hX2 : pX c z2 h2' S2 P A N := hX1.g (X := (z, h, S1, L)) g2
                  have hB := hX2.1
                  rw [e2]
                  have em : mx (Except.ok (cd, q2) : zPR (zCd × zCu)) = q2.1 := rfl
                  rw [em]
                  have hs7 : isSg 7 := ⟨by omega, by omega, by omega, by omega, by omega⟩
                  refine sX3_unit_135 _ _ _ _ _ ?_
                  simp (disch := omega) only [oAld, oAst, oCV, oPush, hB.pk, List.getElem?_cons_zero, List.getElem?_cons_succ, List.set_cons_zero, List.set_cons_succ, List.drop_succ_cons, List.drop_zero, List.take_succ_cons, List.take_zero, List.length_cons, List.length_nil, List.reverse_cons, List.reverse_nil, List.nil_append, List.cons_append, Option.toList_some, Option.toList_none, va_rf_s, true_and, and_true, true_implies, false_implies, not_true_eq_false, not_false_eq_true, Nat.reduceAdd, Nat.reduceLeDiff, Nat.le_add_left, Nat.zero_le, Nat.le_refl, znew, true_or, or_true, b01_t, b01_f, b01_ok, bool_ft, vp_b01, vp_b0, vp_b1, b01_eq0, b01_eq1, implies_true, nI_add, nI_clamp, zi_in, zi_le_t, zi_le_f, zi_lt_t, zi_lt_f, zi_eq_t, zi_eq_f, nI_leI, nI_ltI, nI_eq, z_in, pk_mul, zu_same, zu_rw, zu_ix, zi_ne0, zi_sub, zi_m1, Nat.add_sub_cancel, Nat.reduceMul, Nat.reduceSub]
                  refine zC.of (zX3_sign (k := 7) hX2 p2 hs7) (by omega) (by omega) (by omega) ?_ ?_
                  · rintro _ _ ⟨rfl, q3, S3, e3, rfl, f3, p3⟩
                    obtain ⟨eq3, k3, h4003⟩ := cMust_ok e3
                    rw [e3] at hR
                    have hR : rdU A lv sub q = .ok (cd, q3) := hR
                    have hm3 : mx (rdU A lv sub q) = q2.1 + 1 := by rw [hR, eq3]; rfl
                    rw [hm3] at hVc hVs
                    have j4 := p3.2.1
                    have hB := (hX2.fs f3).1
                    refine sX3_unit_142 _ _ _ _ _ ?_
                    simp (disch := omega) only [oAld, oBin, oDup, oGI, oPI, oPush, oRA, hB.pk, j4, hVc, hVs, List.getElem?_cons_zero, List.getElem?_cons_succ, List.set_cons_zero, List.set_cons_succ, List.drop_succ_cons, List.drop_zero, List.take_succ_cons, List.take_zero, List.length_cons, List.length_nil, List.reverse_cons, List.reverse_nil, List.nil_append, List.cons_append, Option.toList_some, Option.toList_none, va_rf_s, true_and, and_true, true_implies, false_implies, not_true_eq_false, not_false_eq_true, Nat.reduceAdd, Nat.reduceLeDiff, Nat.le_add_left, Nat.zero_le, Nat.le_refl, znew, true_or, or_true, b01_t, b01_f, b01_ok, bool_ft, vp_b01, vp_b0, vp_b1, b01_eq0, b01_eq1, implies_true, nI_add, nI_clamp, zi_in, zi_le_t, zi_le_f, zi_lt_t, zi_lt_f, zi_eq_t, zi_eq_f, nI_leI, nI_ltI, nI_eq, z_in, pk_mul, zu_same, zu_rw, zu_ix, zi_ne0, zi_sub, zi_m1, Nat.add_sub_cancel, Nat.reduceMul, Nat.reduceSub]
                    refine ⟨hVQ _ _ ⟨cd, q3, a, z2, h2', _, L2, hR, rfl, rfl, ?_, ?_, ?_⟩, by omega, by omega⟩
                    · refine ((pG.s (hF0.tr f1)).tr g2).tr (pG.s (f3.tr (fun b b1 _ => zu_rw _ _ b1)))
                    · obtain ⟨j3, -, j5, j6, j7, j8, j9, j10⟩ := p3
                      refine ⟨?_, zu_same _ _ _ _, ?_, fun h0 => ?_, j7, j8, j9, i10⟩
                      · rw [zu_ix _ _ (by omega)]; exact j3
                      · rw [zu_ix _ _ (by omega)]; exact j5
                      · rw [zu_ix _ _ (by omega)]; exact j6 h0
                    · have hs3 : ∀ b, z ≤ b ∧ b < z2 → zu S3 (c + 9) 4 (nI o) b = S2 b := fun b hb => by
                        rw [zu_rw _ _ (by omega)]; exact f3 b (by omega) (by omega)
                      refine (t2.fr (ok' := fun b => z ≤ b ∧ b < z2) hs3 (fun _ _ => rfl) (fun _ hb => hb)).le ?_
                      rw [eq3]; show q2.1 - (q.1 + 1) ≤ q2.1 + 1 - q.1; omega
                  · rintro _ _ ⟨e, S3, e3, rfl, rfl, f3, f4⟩
                    have hR : rdU A lv sub q = .error e := by rw [hR, e3]; rfl
                    have hm3 : mx (rdU A lv sub q) = 401 := by rw [hR]; rfl
                    exact flt _ e _ _ _ _ hR _ _ (by omega) (by omega) (((pG.s (hF0.tr f1)).tr g2).tr (pG.s f3)) f4
                · rintro _ _ ⟨e, z2, h2', S2, L2, e2, rfl, rfl, g2, f4⟩
                  have hR : rdU A lv sub q = .error e := by rw [hR, e2]; rfl
                  have hm3 : mx (rdU A lv sub q) = 401 := by rw [hR]; rfl
                  exact flt _ e _ _ _ _ hR _ _ (by omega) (by omega) ((pG.s (hF0.tr f1)).tr g2) f4
              · rintro _ _ ⟨e, S', e1, rfl, rfl, f1, f2⟩
                exact flt _ e _ _ _ _ (by rw [hR, e1]; rfl) _ _ (by omega) (by omega) (pG.s (hF0.tr f1)) f2
          · rw [decide_eq_false h6]
            have hR : rdU A lv sub q = pErr A 1 q.1 := by unfold rdU; rw [if_neg h2, if_neg hv, if_neg h6]
            refine sX3_unit_93 _ _ _ _ _ ?_
            simp (disch := omega) only [oAld, oBin, oCV, oDup, oGI, oIf, oIfc, oPI, oPush, hB.pk, List.getElem?_cons_zero, List.getElem?_cons_succ, List.set_cons_zero, List.set_cons_succ, List.drop_succ_cons, List.drop_zero, List.take_succ_cons, List.take_zero, List.length_cons, List.length_nil, List.reverse_cons, List.reverse_nil, List.nil_append, List.cons_append, Option.toList_some, Option.toList_none, va_rf_s, true_and, and_true, true_implies, false_implies, not_true_eq_false, not_false_eq_true, Nat.reduceAdd, Nat.reduceLeDiff, Nat.le_add_left, Nat.zero_le, Nat.le_refl, znew, true_or, or_true, b01_t, b01_f, b01_ok, bool_ft, vp_b01, vp_b0, vp_b1, b01_eq0, b01_eq1, implies_true, nI_add, nI_clamp, zi_in, zi_le_t, zi_le_f, zi_lt_t, zi_lt_f, zi_eq_t, zi_eq_f, nI_leI, nI_ltI, nI_eq, z_in, pk_mul, zu_same, zu_rw, zu_ix, zi_ne0, zi_sub, zi_m1, Nat.add_sub_cancel, Nat.reduceMul, Nat.reduceSub]
            refine zC.of0 (zX3_wrong hX hI (by omega)) (by omega) (Nat.zero_le _) (Nat.zero_le _) ?_
            rintro _ _ ⟨rfl, S', rfl, f1, f2⟩
            refine sX3_unit_101 _ _ _ _ _ ?_
            simp (disch := omega) only [oThrow, hB.fk, List.getElem?_cons_zero, List.getElem?_cons_succ, List.set_cons_zero, List.set_cons_succ, List.drop_succ_cons, List.drop_zero, List.take_succ_cons, List.take_zero, List.length_cons, List.length_nil, List.reverse_cons, List.reverse_nil, List.nil_append, List.cons_append, Option.toList_some, Option.toList_none, va_rf_s, true_and, and_true, true_implies, false_implies, not_true_eq_false, not_false_eq_true, Nat.reduceAdd, Nat.reduceLeDiff, Nat.le_add_left, Nat.zero_le, Nat.le_refl, znew, true_or, or_true, b01_t, b01_f, b01_ok, bool_ft, vp_b01, vp_b0, vp_b1, b01_eq0, b01_eq1, implies_true, nI_add, nI_clamp, zi_in, zi_le_t, zi_le_f, zi_lt_t, zi_lt_f, zi_eq_t, zi_eq_f, nI_leI, nI_ltI, nI_eq, z_in, pk_mul, zu_same, zu_rw, zu_ix, zi_ne0, zi_sub, zi_m1, Nat.add_sub_cancel, Nat.reduceMul, Nat.reduceSub]
            exact flt _ _ _ _ _ _ hR _ _ (by omega) (by omega) (pG.s f1) f2
        by_cases h20 : 20 ≤ tkK A q.1
        · obtain ⟨e8, e42⟩ := hX.wd hq h20
          have es3 : (nI (soK (tkK A q.1)) = nI 3) = True := eq_true (by rw [soK_w h20])
          by_cases h34 : 34 ≤ tkK A q.1
          · have hU : rdU A lv sub q = pB (pGo A q) (fun q' => .ok ([(1, nI (tkK A q.1 - 34))], q')) := by unfold rdU; rw [if_neg h2, if_pos ⟨h34, e42⟩]
            refine sX3_unit_37 _ _ _ _ _ ?_
            simp (disch := omega) only [oAld, oAld1, oCV, oGI, oGR, oIfc, oPush, hB.pk, hB.pr0, hB.tk, hB.tr6, hB.tt6, hB.tn6, i3, es3, e8, List.getElem?_cons_zero, List.getElem?_cons_succ, List.set_cons_zero, List.set_cons_succ, List.drop_succ_cons, List.drop_zero, List.take_succ_cons, List.take_zero, List.length_cons, List.length_nil, List.reverse_cons, List.reverse_nil, List.nil_append, List.cons_append, Option.toList_some, Option.toList_none, va_rf_s, true_and, and_true, true_implies, false_implies, not_true_eq_false, not_false_eq_true, Nat.reduceAdd, Nat.reduceLeDiff, Nat.le_add_left, Nat.zero_le, Nat.le_refl, znew, true_or, or_true, b01_t, b01_f, b01_ok, bool_ft, vp_b01, vp_b0, vp_b1, b01_eq0, b01_eq1, implies_true, nI_add, nI_clamp, zi_in, zi_le_t, zi_le_f, zi_lt_t, zi_lt_f, zi_eq_t, zi_eq_f, nI_leI, nI_ltI, nI_eq, z_in, pk_mul, zu_same, zu_rw, zu_ix, zi_ne0, zi_sub, zi_m1, Nat.add_sub_cancel, Nat.reduceMul, Nat.reduceSub]
            refine zC.of (zX3_pass hX hI (hX.nx hq (by omega) (by omega))) (by omega) (by omega) (by omega) ?_ ?_
            · rintro _ _ ⟨rfl, q1, S1, e1, rfl, f1, f2⟩
              obtain ⟨eq1, h400⟩ := cGo_ok e1
              subst eq1
              have hR : rdU A lv sub q = .ok ([(1, nI (tkK A q.1 - 34))], q.1 + 1, q.2) := by rw [hU, e1]; rfl
              have hm : mx (rdU A lv sub q) - q.1 = 1 := by rw [hR]; show q.1 + 1 - q.1 = 1; omega
              rw [hm] at hVc hVs
              have hX2 : pX c (z + 1) (hN h z (34, 0, fun _ => none)) (SN S1 z) P A N := (hX.fs f1).g (X := (z, h, S1, L)) (X' := (z + 1, hN h z (34, 0, fun _ => none), SN S1 z, LN L z)) pG.n
              have i31 : SN S1 z (c + 9) 3 = nI (q.1 + 1) := by rw [SN_o (by omega)]; exact f2.1
              have e82 := (hX2.wd hq h20).1
              have hB := hX2.1
              have esub : tkK A q.1 - 20 - 14 = tkK A q.1 - 34 := by omega
              refine sX3_unit_62 _ _ _ _ _ ?_
              simp (disch := omega) only [oAld, oAld1, oBin, oCI, oDup, oGI, oGR, oNew, oPush, hB.pk, hB.pr0, hB.tk, hB.tr6, hB.tt6, hB.tn6, i31, e82, esub, hVc, hVs, List.getElem?_cons_zero, List.getElem?_cons_succ, List.set_cons_zero, List.set_cons_succ, List.drop_succ_cons, List.drop_zero, List.take_succ_cons, List.take_zero, List.length_cons, List.length_nil, List.reverse_cons, List.reverse_nil, List.nil_append, List.cons_append, Option.toList_some, Option.toList_none, va_rf_s, true_and, and_true, true_implies, false_implies, not_true_eq_false, not_false_eq_true, Nat.reduceAdd, Nat.reduceLeDiff, Nat.le_add_left, Nat.zero_le, Nat.le_refl, true_or, or_true, b01_t, b01_f, b01_ok, bool_ft, vp_b01, vp_b0, vp_b1, b01_eq0, b01_eq1, implies_true, zneq, hN_ts, hN_to, hN_ns, hN_no, hN_rs, hN_ro, SN_s, SN_o, zur_t, zur_n, zur_rs, zur_rk, zur_ro, nI_add, nI_clamp, zi_in, zi_le_t, zi_le_f, zi_lt_t, zi_lt_f, zi_eq_t, zi_eq_f, nI_leI, nI_ltI, nI_eq, z_in, pk_mul, zu_same, zu_rw, zu_ix, zi_ne0, zi_sub, zi_m1, Nat.add_sub_cancel, Nat.reduceMul, Nat.reduceSub]
              refine zC.ofN (zX14_init hN_ts) (by omega) (by omega) (by omega) ?_
              rintro _ _ ⟨rfl, rfl⟩
              refine sX3_unit_86 _ _ _ _ _ ?_
              simp (disch := omega) only [oRA, hVc, hVs, List.getElem?_cons_zero, List.getElem?_cons_succ, List.set_cons_zero, List.set_cons_succ, List.drop_succ_cons, List.drop_zero, List.take_succ_cons, List.take_zero, List.length_cons, List.length_nil, List.reverse_cons, List.reverse_nil, List.nil_append, List.cons_append, Option.toList_some, Option.toList_none, va_rf_s, true_and, and_true, true_implies, false_implies, not_true_eq_false, not_false_eq_true, Nat.reduceAdd, Nat.reduceLeDiff, Nat.le_add_left, Nat.zero_le, Nat.le_refl, znew, true_or, or_true, b01_t, b01_f, b01_ok, bool_ft, vp_b01, vp_b0, vp_b1, b01_eq0, b01_eq1, implies_true, nI_add, nI_clamp, zi_in, zi_le_t, zi_le_f, zi_lt_t, zi_lt_f, zi_eq_t, zi_eq_f, nI_leI, nI_ltI, nI_eq, z_in, pk_mul, zu_same, zu_rw, zu_ix, zi_ne0, zi_sub, zi_m1, Nat.add_sub_cancel, Nat.reduceMul, Nat.reduceSub]
              refine hVQ _ _ ⟨_, _, z, z + 1, _, _, _, hR, rfl, rfl, ?_, ?_, ?_⟩
              · exact pG.new f1 (fun a ha => by rw [zu_rw _ _ (by omega), SN_o (by omega)])
              · exact f2.r (by rw [zu_rw _ _ (by omega), SN_o (by omega)])
              · rw [show (q.1 + 1, q.2).1 - q.1 = 0 + 1 from by show q.1 + 1 - q.1 = 1; omega]
                exact ⟨⟨Nat.le_refl _, by omega⟩, Or.inr (Or.inl ⟨hN_ts, tkK A q.1 - 34, by omega, zu_same _ _ _ _, rfl⟩)⟩
            · rintro _ _ ⟨e, S', e1, rfl, rfl, f1, f2⟩
              exact flt _ e _ _ _ _ (by rw [hU, e1]; rfl) _ _ (by omega) (by omega) (pG.s f1) f2
          · refine sX3_unit_37 _ _ _ _ _ ?_
            simp (disch := omega) only [oAld, oAld1, oCV, oGI, oGR, oIfc, oPush, hB.pk, hB.pr0, hB.tk, hB.tr6, hB.tt6, hB.tn6, i3, es3, e8, List.getElem?_cons_zero, List.getElem?_cons_succ, List.set_cons_zero, List.set_cons_succ, List.drop_succ_cons, List.drop_zero, List.take_succ_cons, List.take_zero, List.length_cons, List.length_nil, List.reverse_cons, List.reverse_nil, List.nil_append, List.cons_append, Option.toList_some, Option.toList_none, va_rf_s, true_and, and_true, true_implies, false_implies, not_true_eq_false, not_false_eq_true, Nat.reduceAdd, Nat.reduceLeDiff, Nat.le_add_left, Nat.zero_le, Nat.le_refl, znew, true_or, or_true, b01_t, b01_f, b01_ok, bool_ft, vp_b01, vp_b0, vp_b1, b01_eq0, b01_eq1, implies_true, nI_add, nI_clamp, zi_in, zi_le_t, zi_le_f, zi_lt_t, zi_lt_f, zi_eq_t, zi_eq_f, nI_leI, nI_ltI, nI_eq, z_in, pk_mul, zu_same, zu_rw, zu_ix, zi_ne0, zi_sub, zi_m1, Nat.add_sub_cancel, Nat.reduceMul, Nat.reduceSub]
            exact par (by omega)
        · have es3 : (nI (soK (tkK A q.1)) = nI 3) = False := eq_false (fun x => h20 (soK_3 (by rw [nI_eq (by omega) (by omega)] at x; exact x)))
          refine sX3_unit_37 _ _ _ _ _ ?_
          simp (disch := omega) only [oAld, oAld1, oCV, oGI, oGR, oIfc, oPush, hB.pk, hB.pr0, hB.tk, hB.tr6, hB.tt6, hB.tn6, es3, List.getElem?_cons_zero, List.getElem?_cons_succ, List.set_cons_zero, List.set_cons_succ, List.drop_succ_cons, List.drop_zero, List.take_succ_cons, List.take_zero, List.length_cons, List.length_nil, List.reverse_cons, List.reverse_nil, List.nil_append, List.cons_append, Option.toList_some, Option.toList_none, va_rf_s, true_and, and_true, true_implies, false_implies, not_true_eq_false, not_false_eq_true, Nat.reduceAdd, Nat.reduceLeDiff, Nat.le_add_left, Nat.zero_le, Nat.le_refl, znew, true_or, or_true, b01_t, b01_f, b01_ok, bool_ft, vp_b01, vp_b0, vp_b1, b01_eq0, b01_eq1, implies_true, nI_add, nI_clamp, zi_in, zi_le_t, zi_le_f, zi_lt_t, zi_lt_f, zi_eq_t, zi_eq_f, nI_leI, nI_ltI, nI_eq, z_in, pk_mul, zu_same, zu_rw, zu_ix, zi_ne0, zi_sub, zi_m1, Nat.add_sub_cancel, Nat.reduceMul, Nat.reduceSub]
          exact par (by omega)
      · rintro _ _ ⟨h3', _⟩
        exact absurd h3' h3
  · rintro _ _ ⟨h3, e, S', e1, rfl, rfl, f1, f2⟩
    have hR : rdU A lv sub q = .error e := by
      unfold rdU
      rw [if_neg (by omega), if_neg (by omega), if_neg (by omega)]
      cases e1; rfl
    exact flt _ e _ _ _ _ hR _ _ (by omega) (by omega) (pG.s f1) f2
end FB
