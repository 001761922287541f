/-! the component's parser: the text while it is told; names -/
theorem firstF_ex {p : Nat → Bool} : ∀ n, (∃ k, firstF p n = some k) ↔ ∃ i, i < n ∧ p i = true
  | 0 => Iff.intro (fun ⟨k, e⟩ => nomatch e) (fun ⟨i, h, _⟩ => absurd h (by omega))
  | n + 1 => by
    have ih := firstF_ex (p := p) n
    have e : firstF p (n + 1) = match firstF p n with
      | some k => some k
      | none => if p n = true then some n else none := rfl
    rw [e]
    cases hf : firstF p n with
    | some k =>
      obtain ⟨i, hi, hp⟩ := ih.mp ⟨k, hf⟩
      exact ⟨fun _ => ⟨i, by omega, hp⟩, fun _ => ⟨k, rfl⟩⟩
    | none =>
      simp only []
      refine ⟨fun ⟨k, q⟩ => ?_, fun ⟨i, hi, hp⟩ => ?_⟩
      · split at q
        · rename_i hp; exact ⟨n, by omega, hp⟩
        · cases q
      · by_cases e2 : i = n
        · subst e2; exact ⟨i, by rw [if_pos hp]⟩
        · obtain ⟨k, hk⟩ := ih.mpr ⟨i, by omega, hp⟩
          rw [hf] at hk; cases hk
def itC (h : Nat → Option zSh) (S : Nat → Nat → Int32) (ok : Nat → Prop) (b : Nat) (w : List Nat) : Prop := ok b ∧ zt h b = 37 ∧ ∃ sa, zr h b 0 = some sa ∧ isSt h S ok sa w
def itS (h : Nat → Option zSh) (S : Nat → Nat → Int32) (ok : Nat → Prop) (b : Nat) (s : Int32 × Int32 × Nat) : Prop := ok b ∧ zt h b = 38 ∧ S b 0 = s.1 ∧ S b 1 = s.2.1 ∧ S b 2 = nI s.2.2
def itY (h : Nat → Option zSh) (S : Nat → Nat → Int32) (ok : Nat → Prop) (b : Nat) (y : List Nat × Nat × Nat × Int32) : Prop := ok b ∧ zt h b = 39 ∧ (∃ sa, zr h b 0 = some sa ∧ isSt h S ok sa y.1) ∧ S b 1 = nI y.2.1 ∧ S b 2 = nI y.2.2.1 ∧ S b 3 = y.2.2.2
def itW (h : Nat → Option zSh) (S : Nat → Nat → Int32) (ok : Nat → Prop) (b : Nat) (w : List Nat × Nat) : Prop := ok b ∧ zt h b = 40 ∧ (∃ sa, zr h b 0 = some sa ∧ isSt h S ok sa w.1) ∧ S b 1 = nI w.2
section F0
variable {h h' : Nat → Option zSh} {S S' : Nat → Nat → Int32} {ok ok' : Nat → Prop} {b : Nat}
theorem itC.fr {w : List Nat} (hS : ∀ a, ok a → S' a = S a) (hh : ∀ a, ok a → h' a = h a) (hok : ∀ a, ok a → ok' a) (hi : itC h S ok b w) : itC h' S' ok' b w := by
  obtain ⟨a1, a2, sa, a3, a4⟩ := hi
  exact ⟨hok _ a1, by unfold zt; rw [hh _ a1]; exact a2, sa, by unfold zr; rw [hh _ a1]; exact a3, a4.fr hS hh hok⟩
theorem itS.fr {s : Int32 × Int32 × Nat} (hS : ∀ a, ok a → S' a = S a) (hh : ∀ a, ok a → h' a = h a) (hok : ∀ a, ok a → ok' a) (hi : itS h S ok b s) : itS h' S' ok' b s := by
  obtain ⟨a1, a2, a3⟩ := hi
  exact ⟨hok _ a1, by unfold zt; rw [hh _ a1]; exact a2, by rw [hS _ a1]; exact a3⟩
theorem itY.fr {y : List Nat × Nat × Nat × Int32} (hS : ∀ a, ok a → S' a = S a) (hh : ∀ a, ok a → h' a = h a) (hok : ∀ a, ok a → ok' a) (hi : itY h S ok b y) : itY h' S' ok' b y := by
  obtain ⟨a1, a2, ⟨sa, a3, a4⟩, a5⟩ := hi
  exact ⟨hok _ a1, by unfold zt; rw [hh _ a1]; exact a2, ⟨sa, by unfold zr; rw [hh _ a1]; exact a3, a4.fr hS hh hok⟩, by rw [hS _ a1]; exact a5⟩
theorem itW.fr {w : List Nat × Nat} (hS : ∀ a, ok a → S' a = S a) (hh : ∀ a, ok a → h' a = h a) (hok : ∀ a, ok a → ok' a) (hi : itW h S ok b w) : itW h' S' ok' b w := by
  obtain ⟨a1, a2, ⟨sa, a3, a4⟩, a5⟩ := hi
  exact ⟨hok _ a1, by unfold zt; rw [hh _ a1]; exact a2, ⟨sa, by unfold zr; rw [hh _ a1]; exact a3, a4.fr hS hh hok⟩, by rw [hS _ a1]; exact a5⟩
end F0
/-- what is told, item by item; lA: where the laws lie -/
def txI (h : Nat → Option zSh) (S : Nat → Nat → Int32) (ok : Nat → Prop) (B : Nat → Nat → Nat) (lA : Nat → Option Nat) (x : zTx) : Prop := (∀ i, i < (xC x).length → itC h S ok (B 0 i) ((xC x).getD i [])) ∧ (∀ i, i < (xS x).length → itS h S ok (B 1 i) ((xS x).getD i s0)) ∧ (∀ i, i < (xY x).length → itY h S ok (B 2 i) ((xY x).getD i y0)) ∧ (∀ i, i < (xW x).length → itW h S ok (B 3 i) ((xW x).getD i w0)) ∧ ∀ k, k < 4 → (xA x k = [] ∧ lA k = none) ∨ ∃ a, lA k = some a ∧ isLw h S ok 400 a (xA x k)
theorem txI.fr {h h' : Nat → Option zSh} {S S' : Nat → Nat → Int32} {ok ok' : Nat → Prop} {B : Nat → Nat → Nat} {lA : Nat → Option Nat} {x : zTx} (hS : ∀ a, ok a → S' a = S a) (hh : ∀ a, ok a → h' a = h a) (hok : ∀ a, ok a → ok' a) (hi : txI h S ok B lA x) : txI h' S' ok' B lA x := by
  obtain ⟨a1, a2, a3, a4, a5⟩ := hi
  refine ⟨fun i hi => (a1 i hi).fr hS hh hok, fun i hi => (a2 i hi).fr hS hh hok, fun i hi => (a3 i hi).fr hS hh hok, fun i hi => (a4 i hi).fr hS hh hok, fun k hk => ?_⟩
  rcases a5 k hk with q | ⟨a, q1, q2⟩
  · exact Or.inl q
  · exact Or.inr ⟨a, q1, q2.fr hS hh hok⟩
def xn (x : zTx) (k : Nat) : Nat := if k = 0 then (xC x).length else if k = 1 then (xS x).length else if k = 2 then (xY x).length else (xW x).length
/-- the data cells of a text at ta -/
def txd (ta z : Nat) (eA : Nat → Nat) (x : zTx) : Nat → Prop := fun a => ta + 6 ≤ a ∧ a < z ∧ ∀ k, k < 4 → xn x k ≠ 0 → a ≠ eA k
def txL (h : Nat → Option zSh) (S : Nat → Nat → Int32) (ta dE : Nat) (eA : Nat → Nat) (B : Nat → Nat → Nat) (x : zTx) (k : Nat) : Prop := zt h (ta + 1 + k) = 29 ∧ S (ta + 1 + k) 2 = nI (xn x k) ∧ xn x k ≤ 10 ∧ (xn x k = 0 → zr h (ta + 1 + k) 1 = some dE) ∧ (xn x k ≠ 0 → zr h (ta + 1 + k) 1 = some (eA k) ∧ zt h (eA k) = 9 ∧ zn h (eA k) = 10 ∧ ∀ i, i < xn x k → zr h (eA k) i = some (B k i))
/-- the text while it is told -/
def txP (z : Nat) (h : Nat → Option zSh) (S : Nat → Nat → Int32) (ta dE : Nat) (eA : Nat → Nat) (B : Nat → Nat → Nat) (x : zTx) : Prop :=
  (zt h ta = 24 ∧ (∀ k, k < 4 → zr h ta k = some (ta + 1 + k)) ∧ zr h ta 4 = some (ta + 5) ∧ zt h (ta + 5) = 6 ∧ zn h (ta + 5) = 4) ∧ (∀ k, k < 4 → txL h S ta dE eA B x k) ∧ txI h S (txd ta z eA x) B (zr h (ta + 5)) x ∧ (S ta 5 = (xG x).1 ∧ S ta 6 = nI (xG x).2.1 ∧ S ta 7 = nI (xG x).2.2) ∧ ta + 6 ≤ z ∧ (∀ k, k < 4 → xn x k ≠ 0 → ta + 6 ≤ eA k ∧ eA k < z) ∧ ∀ k k', k < 4 → k' < 4 → k ≠ k' → xn x k ≠ 0 → xn x k' ≠ 0 → eA k ≠ eA k'
section FF
variable {l : Launch} {E : zE} {z : Nat} {h : Nat → Option zSh} {S : Nat → Nat → Int32} {L : Nat → Nat → Int64} {c : Nat} {P : List Int32} {A : List zTk} {N : Nat} {q : zCu} {o : Nat} {ta dE : Nat} {eA : Nat → Nat} {B : Nat → Nat → Nat} {x : zTx}
theorem txP.g {z' : Nat} {h' : Nat → Option zSh} {S' : Nat → Nat → Int32} {L' : Nat → Nat → Int64} (hct : c + 606 ≤ ta) (hp : txP z h S ta dE eA B x) (g : pG c (z, h, S, L) (z', h', S', L')) : txP z' h' S' ta dE eA B x := by
  obtain ⟨⟨a1, a2, a3, a4, a5⟩, b, d, e, f, f2, f3⟩ := hp
  have hz : z ≤ z' := g.1
  have hh : ∀ y, y < z → h' y = h y := fun y hy => (g.2 y hy).1
  have hS : ∀ y, ta ≤ y → y < z → S' y = S y := fun y h1 h2 => (g.2 y h2).2.1 (by omega) (by omega)
  have ft : ∀ y, y < z → zt h' y = zt h y ∧ zn h' y = zn h y ∧ zr h' y = zr h y := fun y hy => by unfold zt zn zr; rw [hh y hy]; exact ⟨rfl, rfl, rfl⟩
  refine ⟨⟨by rw [(ft _ (by omega)).1]; exact a1, fun k hk => by rw [(ft _ (by omega)).2.2]; exact a2 k hk, by rw [(ft _ (by omega)).2.2]; exact a3, by rw [(ft _ (by omega)).1]; exact a4, by rw [(ft _ (by omega)).2.1]; exact a5⟩, fun k hk => ?_, ?_, by rw [hS ta (by omega) (by omega)]; exact e, by omega, fun k hk h0 => by have := f2 k hk h0; omega, f3⟩
  · obtain ⟨b1, b2, b3, b4, b5⟩ := b k hk
    refine ⟨by rw [(ft _ (by omega)).1]; exact b1, by rw [hS _ (by omega) (by omega)]; exact b2, b3, fun h0 => by rw [(ft _ (by omega)).2.2]; exact b4 h0, fun h0 => ?_⟩
    obtain ⟨c1, c2, c3, c4⟩ := b5 h0
    have := f2 k hk h0
    exact ⟨by rw [(ft _ (by omega)).2.2]; exact c1, by rw [(ft _ (by omega)).1]; exact c2, by rw [(ft _ (by omega)).2.1]; exact c3, fun i hi => by rw [(ft _ (by omega)).2.2]; exact c4 i hi⟩
  · rw [(ft (ta + 5) (by omega)).2.2]
    exact d.fr (fun y hy => hS y (by have := hy.1; omega) hy.2.1) (fun y hy => hh y hy.2.1) (fun y hy => ⟨hy.1, by have := hy.2.1; omega, hy.2.2⟩)
theorem txP.ls (hp : txP z h S ta dE eA B x) {k : Nat} (hk : k < 4) : isLs h S (ta + 1 + k) (xn x k) (B k) := by
  obtain ⟨b1, b2, b3, b4, b5⟩ := hp.2.1 k hk
  refine ⟨b1, b2, by omega, fun h0 => ?_⟩
  obtain ⟨c1, c2, c3, c4⟩ := b5 (by omega)
  exact ⟨eA k, c1, c2, by omega, by omega, c4⟩
theorem zX4_at {a n sb : Nat} {f : Nat → Nat} {nm : Nat → List Nat} {w : List Nat} {ok ok' : Nat → Prop} (hc : csZ E) (hl : isLs h S a n f) (hn : ∀ i, i < n → ∃ k sa, (k = 17 ∨ k = 19 ∨ k = 20) ∧ zt h (f i) = 20 + k ∧ zr h (f i) 0 = some sa ∧ isSt h S ok sa (nm i)) (hw : isSt h S ok' sb w) : zM l E 3 YX4_at [.ref a, .ref sb] (z, h, S, L) 0 0 (fun r X => r = some (.int (oM (firstF (fun i => decide (nm i = w)) n))) ∧ X = (z, h, S, L)) (fun _ _ => False) := by
  refine zM.go rfl rfl (Nat.le_of_ble_eq_true rfl) (ls := [some (.ref a), some (.ref sb), none]) rfl ?_
  intro V hVl hVE hVd hVc hVs hVQ hVX
  have hn100 := hl.2.2.1
  have hta := hl.1
  generalize hp : (fun i => decide (nm i = w)) = p at hVQ
  have hpi : ∀ i, p i = decide (nm i = w) := fun i => by rw [← hp]
  have loop : ∀ i, i ≤ n → firstF p i = none → zW V YX4_at 2 [some (.ref a), some (.ref sb), some (.int (nI i))] [] (z, h, S, L) 0 0 := by
    refine z_down ?_ (fun i hi ih => ?_)
    · intro hf
      refine sX4_at_2 _ _ _ _ _ ?_
      simp (disch := omega) only [oAld, oCV, oIld, hta, List.getElem?_cons_zero, List.getElem?_cons_succ, List.set_cons_zero, List.set_cons_succ, List.drop_succ_cons, List.drop_zero, List.take_succ_cons, List.take_zero, List.length_cons, List.length_nil, List.reverse_cons, List.reverse_nil, List.nil_append, List.cons_append, Option.toList_some, Option.toList_none, va_rf_s, true_and, and_true, true_implies, false_implies, not_true_eq_false, not_false_eq_true, Nat.reduceAdd, Nat.reduceLeDiff, Nat.le_add_left, Nat.zero_le, Nat.le_refl, znew, true_or, or_true, b01_t, b01_f, b01_ok, bool_ft, vp_b01, vp_b0, vp_b1, b01_eq0, b01_eq1, implies_true, nI_add, nI_clamp, zi_in, zi_le_t, zi_le_f, zi_lt_t, zi_lt_f, zi_eq_t, zi_eq_f, nI_leI, nI_ltI, nI_eq, z_in, pk_mul, zu_same, zu_rw, zu_ix, zi_ne0, zi_sub, zi_m1, Nat.add_sub_cancel, Nat.reduceMul, Nat.reduceSub]
      refine zC.of0 (zJ5_size hl) (by omega) (Nat.zero_le _) (Nat.zero_le _) ?_
      rintro _ _ ⟨rfl, rfl⟩
      refine sX4_at_7 _ _ _ _ _ ?_
      simp (disch := omega) only [oAld, oCV, oIfc, oIld, oPush, oRI, List.getElem?_cons_zero, List.getElem?_cons_succ, List.set_cons_zero, List.set_cons_succ, List.drop_succ_cons, List.drop_zero, List.take_succ_cons, List.take_zero, List.length_cons, List.length_nil, List.reverse_cons, List.reverse_nil, List.nil_append, List.cons_append, Option.toList_some, Option.toList_none, va_rf_s, true_and, and_true, true_implies, false_implies, not_true_eq_false, not_false_eq_true, Nat.reduceAdd, Nat.reduceLeDiff, Nat.le_add_left, Nat.zero_le, Nat.le_refl, znew, true_or, or_true, b01_t, b01_f, b01_ok, bool_ft, vp_b01, vp_b0, vp_b1, b01_eq0, b01_eq1, implies_true, nI_add, nI_clamp, zi_in, zi_le_t, zi_le_f, zi_lt_t, zi_lt_f, zi_eq_t, zi_eq_f, nI_leI, nI_ltI, nI_eq, z_in, pk_mul, zu_same, zu_rw, zu_ix, zi_ne0, zi_sub, zi_m1, Nat.add_sub_cancel, Nat.reduceMul, Nat.reduceSub]
      exact hVQ _ _ ⟨by rw [hf]; rfl, rfl⟩
    · intro hf
      obtain ⟨k, sa, hk, t1, t2, t3⟩ := hn i hi
      have fs : firstF p (i + 1) = if p i = true then some i else none := by rw [firstF, hf]
      have ts := t3.2.1
      refine sX4_at_2 _ _ _ _ _ ?_
      simp (disch := omega) only [oAld, oCV, oIld, hta, List.getElem?_cons_zero, List.getElem?_cons_succ, List.set_cons_zero, List.set_cons_succ, List.drop_succ_cons, List.drop_zero, List.take_succ_cons, List.take_zero, List.length_cons, List.length_nil, List.reverse_cons, List.reverse_nil, List.nil_append, List.cons_append, Option.toList_some, Option.toList_none, va_rf_s, true_and, and_true, true_implies, false_implies, not_true_eq_false, not_false_eq_true, Nat.reduceAdd, Nat.reduceLeDiff, Nat.le_add_left, Nat.zero_le, Nat.le_refl, znew, true_or, or_true, b01_t, b01_f, b01_ok, bool_ft, vp_b01, vp_b0, vp_b1, b01_eq0, b01_eq1, implies_true, nI_add, nI_clamp, zi_in, zi_le_t, zi_le_f, zi_lt_t, zi_lt_f, zi_eq_t, zi_eq_f, nI_leI, nI_ltI, nI_eq, z_in, pk_mul, zu_same, zu_rw, zu_ix, zi_ne0, zi_sub, zi_m1, Nat.add_sub_cancel, Nat.reduceMul, Nat.reduceSub]
      refine zC.of0 (zJ5_size hl) (by omega) (Nat.zero_le _) (Nat.zero_le _) ?_
      rintro _ _ ⟨rfl, rfl⟩
      refine sX4_at_7 _ _ _ _ _ ?_
      simp (disch := omega) only [oAld, oCV, oIfc, oIld, oPush, oRI, hta, List.getElem?_cons_zero, List.getElem?_cons_succ, List.set_cons_zero, List.set_cons_succ, List.drop_succ_cons, List.drop_zero, List.take_succ_cons, List.take_zero, List.length_cons, List.length_nil, List.reverse_cons, List.reverse_nil, List.nil_append, List.cons_append, Option.toList_some, Option.toList_none, va_rf_s, true_and, and_true, true_implies, false_implies, not_true_eq_false, not_false_eq_true, Nat.reduceAdd, Nat.reduceLeDiff, Nat.le_add_left, Nat.zero_le, Nat.le_refl, znew, true_or, or_true, b01_t, b01_f, b01_ok, bool_ft, vp_b01, vp_b0, vp_b1, b01_eq0, b01_eq1, implies_true, nI_add, nI_clamp, zi_in, zi_le_t, zi_le_f, zi_lt_t, zi_lt_f, zi_eq_t, zi_eq_f, nI_leI, nI_ltI, nI_eq, z_in, pk_mul, zu_same, zu_rw, zu_ix, zi_ne0, zi_sub, zi_m1, Nat.add_sub_cancel, Nat.reduceMul, Nat.reduceSub]
      refine zC.of0 (zJ5_get hl hi) (by omega) (Nat.zero_le _) (Nat.zero_le _) ?_
      rintro _ _ ⟨rfl, rfl⟩
      refine sX4_at_15 _ _ _ _ _ ?_
      have key : zC V YJ8_equals [.ref sa, .ref sb] (z, h, S, L) 0 0 (fun v X' k' n' => zW V YX4_at 25 [some (.ref a), some (.ref sb), some (.int (nI i))] (v.toList ++ []) X' k' n') (zOut V [some (.ref a), some (.ref sb), some (.int (nI i))]) := by
        refine zC.of0 (zJ8_equals (by rw [hVE]; exact hc) t3 hw) (by omega) (Nat.zero_le _) (Nat.zero_le _) ?_
        rintro _ _ ⟨rfl, rfl⟩
        rw [← hpi]
        cases hb : p i with
        | true =>
          have hF : firstF p n = some i := firstF_some (by rw [fs, hb]; rfl) n (by omega)
          refine sX4_at_25 _ _ _ _ _ ?_
          simp (disch := omega) only [oIf, oIld, oInc, oNop, oRI, List.getElem?_cons_zero, List.getElem?_cons_succ, List.set_cons_zero, List.set_cons_succ, List.drop_succ_cons, List.drop_zero, List.take_succ_cons, List.take_zero, List.length_cons, List.length_nil, List.reverse_cons, List.reverse_nil, List.nil_append, List.cons_append, Option.toList_some, Option.toList_none, va_rf_s, true_and, and_true, true_implies, false_implies, not_true_eq_false, not_false_eq_true, Nat.reduceAdd, Nat.reduceLeDiff, Nat.le_add_left, Nat.zero_le, Nat.le_refl, znew, true_or, or_true, b01_t, b01_f, b01_ok, bool_ft, vp_b01, vp_b0, vp_b1, b01_eq0, b01_eq1, implies_true, nI_add, nI_clamp, zi_in, zi_le_t, zi_le_f, zi_lt_t, zi_lt_f, zi_eq_t, zi_eq_f, nI_leI, nI_ltI, nI_eq, z_in, pk_mul, zu_same, zu_rw, zu_ix, zi_ne0, zi_sub, zi_m1, Nat.add_sub_cancel, Nat.reduceMul, Nat.reduceSub]
          exact hVQ _ _ ⟨by rw [hF]; rfl, rfl⟩
        | false =>
          refine sX4_at_25 _ _ _ _ _ ?_
          simp (disch := omega) only [oIf, oIld, oInc, oNop, oRI, List.getElem?_cons_zero, List.getElem?_cons_succ, List.set_cons_zero, List.set_cons_succ, List.drop_succ_cons, List.drop_zero, List.take_succ_cons, List.take_zero, List.length_cons, List.length_nil, List.reverse_cons, List.reverse_nil, List.nil_append, List.cons_append, Option.toList_some, Option.toList_none, va_rf_s, true_and, and_true, true_implies, false_implies, not_true_eq_false, not_false_eq_true, Nat.reduceAdd, Nat.reduceLeDiff, Nat.le_add_left, Nat.zero_le, Nat.le_refl, znew, true_or, or_true, b01_t, b01_f, b01_ok, bool_ft, vp_b01, vp_b0, vp_b1, b01_eq0, b01_eq1, implies_true, nI_add, nI_clamp, zi_in, zi_le_t, zi_le_f, zi_lt_t, zi_lt_f, zi_eq_t, zi_eq_f, nI_leI, nI_ltI, nI_eq, z_in, pk_mul, zu_same, zu_rw, zu_ix, zi_ne0, zi_sub, zi_m1, Nat.add_sub_cancel, Nat.reduceMul, Nat.reduceSub]
          exact ih (by rw [fs, hb]; rfl)
      rcases hk with rfl | rfl | rfl
      · refine ⟨17, by simp, t1, (17, 0), by simp, t1, ?_⟩
        simp only [t2, va_rf_s, oAld, oCV, ts, List.getElem?_cons_zero, List.getElem?_cons_succ, List.drop_succ_cons, List.drop_zero, List.take_succ_cons, List.take_zero, List.length_cons, List.length_nil, List.reverse_cons, List.reverse_nil, List.nil_append, true_and, Nat.zero_le, Nat.reduceAdd, Nat.reduceLeDiff]
        exact ⟨by decide, key⟩
      · refine ⟨19, by simp, t1, (19, 0), by simp, t1, ?_⟩
        simp only [t2, va_rf_s, oAld, oCV, ts, List.getElem?_cons_zero, List.getElem?_cons_succ, List.drop_succ_cons, List.drop_zero, List.take_succ_cons, List.take_zero, List.length_cons, List.length_nil, List.reverse_cons, List.reverse_nil, List.nil_append, true_and, Nat.zero_le, Nat.reduceAdd, Nat.reduceLeDiff]
        exact ⟨by decide, key⟩
      · refine ⟨20, by simp, t1, (20, 0), by simp, t1, ?_⟩
        simp only [t2, va_rf_s, oAld, oCV, ts, List.getElem?_cons_zero, List.getElem?_cons_succ, List.drop_succ_cons, List.drop_zero, List.take_succ_cons, List.take_zero, List.length_cons, List.length_nil, List.reverse_cons, List.reverse_nil, List.nil_append, true_and, Nat.zero_le, Nat.reduceAdd, Nat.reduceLeDiff]
        exact ⟨by decide, key⟩
  refine sX4_at_0 _ _ _ _ _ ?_
  simp (disch := omega) only [oIst, oPush, List.getElem?_cons_zero, List.getElem?_cons_succ, List.set_cons_zero, List.set_cons_succ, List.drop_succ_cons, List.drop_zero, List.take_succ_cons, List.take_zero, List.length_cons, List.length_nil, List.reverse_cons, List.reverse_nil, List.nil_append, List.cons_append, Option.toList_some, Option.toList_none, va_rf_s, true_and, and_true, true_implies, false_implies, not_true_eq_false, not_false_eq_true, Nat.reduceAdd, Nat.reduceLeDiff, Nat.le_add_left, Nat.zero_le, Nat.le_refl, znew, true_or, or_true, b01_t, b01_f, b01_ok, bool_ft, vp_b01, vp_b0, vp_b1, b01_eq0, b01_eq1, implies_true, nI_add, nI_clamp, zi_in, zi_le_t, zi_le_f, zi_lt_t, zi_lt_f, zi_eq_t, zi_eq_f, nI_leI, nI_ltI, nI_eq, z_in, pk_mul, zu_same, zu_rw, zu_ix, zi_ne0, zi_sub, zi_m1, Nat.add_sub_cancel, Nat.reduceMul, Nat.reduceSub]
  exact loop 0 (by omega) rfl
/-- the names of the lists -/
theorem txP.nm0 (hp : txP z h S ta dE eA B x) : ∀ i, i < xn x 0 → ∃ k sa, (k = 17 ∨ k = 19 ∨ k = 20) ∧ zt h (B 0 i) = 20 + k ∧ zr h (B 0 i) 0 = some sa ∧ isSt h S (txd ta z eA x) sa ((xC x).getD i []) := fun i hi => by
  obtain ⟨-, q2, sa, q3, q4⟩ := hp.2.2.1.1 i hi
  exact ⟨17, sa, Or.inl rfl, q2, q3, q4⟩
theorem txP.nm2 (hp : txP z h S ta dE eA B x) : ∀ i, i < xn x 2 → ∃ k sa, (k = 17 ∨ k = 19 ∨ k = 20) ∧ zt h (B 2 i) = 20 + k ∧ zr h (B 2 i) 0 = some sa ∧ isSt h S (txd ta z eA x) sa ((xY x).getD i y0).1 := fun i hi => by
  obtain ⟨-, q2, ⟨sa, q3, q4⟩, -⟩ := hp.2.2.1.2.2.1 i hi
  exact ⟨19, sa, Or.inr (Or.inl rfl), q2, q3, q4⟩
theorem txP.nm3 (hp : txP z h S ta dE eA B x) : ∀ i, i < xn x 3 → ∃ k sa, (k = 17 ∨ k = 19 ∨ k = 20) ∧ zt h (B 3 i) = 20 + k ∧ zr h (B 3 i) 0 = some sa ∧ isSt h S (txd ta z eA x) sa ((xW x).getD i w0).1 := fun i hi => by
  obtain ⟨-, q2, ⟨sa, q3, q4⟩, -⟩ := hp.2.2.1.2.2.2.1 i hi
  exact ⟨20, sa, Or.inr (Or.inr rfl), q2, q3, q4⟩
theorem ff_mem {l : List (List Nat)} {w : List Nat} : (∃ k, firstF (fun i => decide (l.getD i [] = w)) l.length = some k) ↔ w ∈ l := by
  rw [firstF_ex]
  constructor
  · rintro ⟨i, hi, e⟩
    have e := of_decide_eq_true e
    rw [← e, List.getD_eq_getElem?_getD, List.getElem?_eq_getElem hi]; exact List.getElem_mem hi
  · intro hm
    obtain ⟨i, hi, e⟩ := List.mem_iff_getElem.mp hm
    exact ⟨i, hi, decide_eq_true (by rw [List.getD_eq_getElem?_getD, List.getElem?_eq_getElem hi]; exact e)⟩
theorem ff_map {α : Type} {l : List α} {g : α → List Nat} {d : α} {w : List Nat} : (∃ k, firstF (fun i => decide (g (l.getD i d) = w)) l.length = some k) ↔ w ∈ l.map g := by
  rw [firstF_ex]
  constructor
  · rintro ⟨i, hi, e⟩
    have e := of_decide_eq_true e
    rw [List.getD_eq_getElem?_getD, List.getElem?_eq_getElem hi] at e
    exact List.mem_map.mpr ⟨_, List.getElem_mem hi, e⟩
  · intro hm
    obtain ⟨y, hy, e⟩ := List.mem_map.mp hm
    obtain ⟨i, hi, e2⟩ := List.mem_iff_getElem.mp hy
    refine ⟨i, hi, decide_eq_true ?_⟩
    rw [List.getD_eq_getElem?_getD, List.getElem?_eq_getElem hi]
    show g l[i] = w
    rw [e2]; exact e
theorem m1_le0 : (nI 0 ≤ (-1 : Int32)) = False := eq_false (by decide)
theorem m1_lt0 : ((-1 : Int32) < nI 0) = True := eq_true (by decide)
theorem zX4_has {sb : Nat} {w : List Nat} {ok' : Nat → Prop} (hc : csZ E) (hp : txP z h S ta dE eA B x) (hw : isSt h S ok' sb w) : zM l E 4 YX4_has [.ref ta, .ref sb] (z, h, S, L) 0 0 (fun r X => r = some (.int (b01 (xHas x w))) ∧ X = (z, h, S, L)) (fun _ _ => False) := by
  obtain ⟨⟨a1, a2, a3, a4, a5⟩, -⟩ := id hp
  have r0 : zr h ta 0 = some (ta + 1) := a2 0 (by omega)
  have r2 : zr h ta 2 = some (ta + 3) := a2 2 (by omega)
  have r3 : zr h ta 3 = some (ta + 4) := a2 3 (by omega)
  have l0 := hp.ls (k := 0) (by omega)
  have l2 := hp.ls (k := 2) (by omega)
  have l3 := hp.ls (k := 3) (by omega)
  refine zM.go rfl rfl (Nat.le_of_ble_eq_true rfl) (ls := [some (.ref ta), some (.ref sb)]) rfl ?_
  intro V hVl hVE hVd hVc hVs hVQ hVX
  have hC := ff_mem (l := xC x) (w := w)
  have hY := ff_map (l := xY x) (g := fun y => y.1) (d := y0) (w := w)
  have hW := ff_map (l := xW x) (g := fun y => y.1) (d := w0) (w := w)
  have hl0 : xn x 0 = (xC x).length := rfl
  have hl2 : xn x 2 = (xY x).length := rfl
  have hl3 : xn x 3 = (xW x).length := rfl
  have b0 := l0.2.2.1
  have b2 := l2.2.2.1
  have b3 := l3.2.2.1
  refine sX4_has_0 _ _ _ _ _ ?_
  simp (disch := omega) only [oAld, oCS, oGR, a1, r0, List.getElem?_cons_zero, List.getElem?_cons_succ, List.set_cons_zero, List.set_cons_succ, List.drop_succ_cons, List.drop_zero, List.take_succ_cons, List.take_zero, List.length_cons, List.length_nil, List.reverse_cons, List.reverse_nil, List.nil_append, List.cons_append, Option.toList_some, Option.toList_none, va_rf_s, true_and, and_true, true_implies, false_implies, not_true_eq_false, not_false_eq_true, Nat.reduceAdd, Nat.reduceLeDiff, Nat.le_add_left, Nat.zero_le, Nat.le_refl, znew, true_or, or_true, b01_t, b01_f, b01_ok, bool_ft, vp_b01, vp_b0, vp_b1, b01_eq0, b01_eq1, implies_true, nI_add, nI_clamp, zi_in, zi_le_t, zi_le_f, zi_lt_t, zi_lt_f, zi_eq_t, zi_eq_f, nI_leI, nI_ltI, nI_eq, z_in, pk_mul, zu_same, zu_rw, zu_ix, zi_ne0, zi_sub, zi_m1, Nat.add_sub_cancel, Nat.reduceMul, Nat.reduceSub]
  refine zC.of0 (zX4_at (nm := fun i => (xC x).getD i []) (by rw [hVE]; exact hc) l0 hp.nm0 hw) (by omega) (Nat.zero_le _) (Nat.zero_le _) ?_
  rintro _ _ ⟨rfl, rfl⟩
  rw [hl0]
  cases hf : firstF (fun i => decide ((xC x).getD i [] = w)) (xC x).length with
  | some k =>
    have hk := (firstF_lt hf).1
    rw [oM_s]
    refine sX4_has_8 _ _ _ _ _ ?_
    simp (disch := omega) only [oAld, oCS, oGR, oIf, oNop, oPush, oRZ, List.getElem?_cons_zero, List.getElem?_cons_succ, List.set_cons_zero, List.set_cons_succ, List.drop_succ_cons, List.drop_zero, List.take_succ_cons, List.take_zero, List.length_cons, List.length_nil, List.reverse_cons, List.reverse_nil, List.nil_append, List.cons_append, Option.toList_some, Option.toList_none, va_rf_s, true_and, and_true, true_implies, false_implies, not_true_eq_false, not_false_eq_true, Nat.reduceAdd, Nat.reduceLeDiff, Nat.le_add_left, Nat.zero_le, Nat.le_refl, znew, true_or, or_true, b01_t, b01_f, b01_ok, bool_ft, vp_b01, vp_b0, vp_b1, b01_eq0, b01_eq1, implies_true, nI_add, nI_clamp, zi_in, zi_le_t, zi_le_f, zi_lt_t, zi_lt_f, zi_eq_t, zi_eq_f, nI_leI, nI_ltI, nI_eq, z_in, pk_mul, zu_same, zu_rw, zu_ix, zi_ne0, zi_sub, zi_m1, Nat.add_sub_cancel, Nat.reduceMul, Nat.reduceSub]
    refine hVQ _ _ ⟨?_, rfl⟩
    unfold xHas
    rw [decide_eq_true (Or.inl (hC.mp ⟨k, hf⟩))]; rfl
  | none =>
    have nC : ¬ w ∈ xC x := fun q => by obtain ⟨k, e⟩ := hC.mpr q; rw [hf] at e; cases e
    rw [oM_n]
    refine sX4_has_8 _ _ _ _ _ ?_
    simp (disch := omega) only [oAld, oCS, oGR, oIf, oNop, oPush, oRZ, m1_le0, a1, r2, List.getElem?_cons_zero, List.getElem?_cons_succ, List.set_cons_zero, List.set_cons_succ, List.drop_succ_cons, List.drop_zero, List.take_succ_cons, List.take_zero, List.length_cons, List.length_nil, List.reverse_cons, List.reverse_nil, List.nil_append, List.cons_append, Option.toList_some, Option.toList_none, va_rf_s, true_and, and_true, true_implies, false_implies, not_true_eq_false, not_false_eq_true, Nat.reduceAdd, Nat.reduceLeDiff, Nat.le_add_left, Nat.zero_le, Nat.le_refl, znew, true_or, or_true, b01_t, b01_f, b01_ok, bool_ft, vp_b01, vp_b0, vp_b1, b01_eq0, b01_eq1, implies_true, nI_add, nI_clamp, zi_in, zi_le_t, zi_le_f, zi_lt_t, zi_lt_f, zi_eq_t, zi_eq_f, nI_leI, nI_ltI, nI_eq, z_in, pk_mul, zu_same, zu_rw, zu_ix, zi_ne0, zi_sub, zi_m1, Nat.add_sub_cancel, Nat.reduceMul, Nat.reduceSub]
    refine zC.of0 (zX4_at (nm := fun i => ((xY x).getD i y0).1) (by rw [hVE]; exact hc) l2 hp.nm2 hw) (by omega) (Nat.zero_le _) (Nat.zero_le _) ?_
    rintro _ _ ⟨rfl, rfl⟩
    rw [hl2]
    cases hf2 : firstF (fun i => decide (((xY x).getD i y0).1 = w)) (xY x).length with
    | some k =>
      have hk := (firstF_lt hf2).1
      rw [oM_s]
      refine sX4_has_19 _ _ _ _ _ ?_
      simp (disch := omega) only [oAld, oCS, oGR, oIf, oNop, oPush, oRZ, List.getElem?_cons_zero, List.getElem?_cons_succ, List.set_cons_zero, List.set_cons_succ, List.drop_succ_cons, List.drop_zero, List.take_succ_cons, List.take_zero, List.length_cons, List.length_nil, List.reverse_cons, List.reverse_nil, List.nil_append, List.cons_append, Option.toList_some, Option.toList_none, va_rf_s, true_and, and_true, true_implies, false_implies, not_true_eq_false, not_false_eq_true, Nat.reduceAdd, Nat.reduceLeDiff, Nat.le_add_left, Nat.zero_le, Nat.le_refl, znew, true_or, or_true, b01_t, b01_f, b01_ok, bool_ft, vp_b01, vp_b0, vp_b1, b01_eq0, b01_eq1, implies_true, nI_add, nI_clamp, zi_in, zi_le_t, zi_le_f, zi_lt_t, zi_lt_f, zi_eq_t, zi_eq_f, nI_leI, nI_ltI, nI_eq, z_in, pk_mul, zu_same, zu_rw, zu_ix, zi_ne0, zi_sub, zi_m1, Nat.add_sub_cancel, Nat.reduceMul, Nat.reduceSub]
      refine hVQ _ _ ⟨?_, rfl⟩
      unfold xHas
      rw [decide_eq_true (Or.inr (Or.inl (hY.mp ⟨k, hf2⟩)))]; rfl
    | none =>
      have nY : ¬ w ∈ (xY x).map (fun y => y.1) := fun q => by obtain ⟨k, e⟩ := hY.mpr q; rw [hf2] at e; cases e
      rw [oM_n]
      refine sX4_has_19 _ _ _ _ _ ?_
      simp (disch := omega) only [oAld, oCS, oGR, oIf, oNop, oPush, oRZ, m1_le0, a1, r3, List.getElem?_cons_zero, List.getElem?_cons_succ, List.set_cons_zero, List.set_cons_succ, List.drop_succ_cons, List.drop_zero, List.take_succ_cons, List.take_zero, List.length_cons, List.length_nil, List.reverse_cons, List.reverse_nil, List.nil_append, List.cons_append, Option.toList_some, Option.toList_none, va_rf_s, true_and, and_true, true_implies, false_implies, not_true_eq_false, not_false_eq_true, Nat.reduceAdd, Nat.reduceLeDiff, Nat.le_add_left, Nat.zero_le, Nat.le_refl, znew, true_or, or_true, b01_t, b01_f, b01_ok, bool_ft, vp_b01, vp_b0, vp_b1, b01_eq0, b01_eq1, implies_true, nI_add, nI_clamp, zi_in, zi_le_t, zi_le_f, zi_lt_t, zi_lt_f, zi_eq_t, zi_eq_f, nI_leI, nI_ltI, nI_eq, z_in, pk_mul, zu_same, zu_rw, zu_ix, zi_ne0, zi_sub, zi_m1, Nat.add_sub_cancel, Nat.reduceMul, Nat.reduceSub]
      refine zC.of0 (zX4_at (nm := fun i => ((xW x).getD i w0).1) (by rw [hVE]; exact hc) l3 hp.nm3 hw) (by omega) (Nat.zero_le _) (Nat.zero_le _) ?_
      rintro _ _ ⟨rfl, rfl⟩
      rw [hl3]
      cases hf3 : firstF (fun i => decide (((xW x).getD i w0).1 = w)) (xW x).length with
      | some k =>
        have hk := (firstF_lt hf3).1
        rw [oM_s]
        refine sX4_has_30 _ _ _ _ _ ?_
        simp (disch := omega) only [oIf, oNop, oPush, oRZ, List.getElem?_cons_zero, List.getElem?_cons_succ, List.set_cons_zero, List.set_cons_succ, List.drop_succ_cons, List.drop_zero, List.take_succ_cons, List.take_zero, List.length_cons, List.length_nil, List.reverse_cons, List.reverse_nil, List.nil_append, List.cons_append, Option.toList_some, Option.toList_none, va_rf_s, true_and, and_true, true_implies, false_implies, not_true_eq_false, not_false_eq_true, Nat.reduceAdd, Nat.reduceLeDiff, Nat.le_add_left, Nat.zero_le, Nat.le_refl, znew, true_or, or_true, b01_t, b01_f, b01_ok, bool_ft, vp_b01, vp_b0, vp_b1, b01_eq0, b01_eq1, implies_true, nI_add, nI_clamp, zi_in, zi_le_t, zi_le_f, zi_lt_t, zi_lt_f, zi_eq_t, zi_eq_f, nI_leI, nI_ltI, nI_eq, z_in, pk_mul, zu_same, zu_rw, zu_ix, zi_ne0, zi_sub, zi_m1, Nat.add_sub_cancel, Nat.reduceMul, Nat.reduceSub]
        refine hVQ _ _ ⟨?_, rfl⟩
        unfold xHas
        rw [decide_eq_true (Or.inr (Or.inr (hW.mp ⟨k, hf3⟩)))]; rfl
      | none =>
        have nW : ¬ w ∈ (xW x).map (fun y => y.1) := fun q => by obtain ⟨k, e⟩ := hW.mpr q; rw [hf3] at e; cases e
        rw [oM_n]
        refine sX4_has_30 _ _ _ _ _ ?_
        simp (disch := omega) only [oIf, oNop, oPush, oRZ, m1_lt0, List.getElem?_cons_zero, List.getElem?_cons_succ, List.set_cons_zero, List.set_cons_succ, List.drop_succ_cons, List.drop_zero, List.take_succ_cons, List.take_zero, List.length_cons, List.length_nil, List.reverse_cons, List.reverse_nil, List.nil_append, List.cons_append, Option.toList_some, Option.toList_none, va_rf_s, true_and, and_true, true_implies, false_implies, not_true_eq_false, not_false_eq_true, Nat.reduceAdd, Nat.reduceLeDiff, Nat.le_add_left, Nat.zero_le, Nat.le_refl, znew, true_or, or_true, b01_t, b01_f, b01_ok, bool_ft, vp_b01, vp_b0, vp_b1, b01_eq0, b01_eq1, implies_true, nI_add, nI_clamp, zi_in, zi_le_t, zi_le_f, zi_lt_t, zi_lt_f, zi_eq_t, zi_eq_f, nI_leI, nI_ltI, nI_eq, z_in, pk_mul, zu_same, zu_rw, zu_ix, zi_ne0, zi_sub, zi_m1, Nat.add_sub_cancel, Nat.reduceMul, Nat.reduceSub]
        refine hVQ _ _ ⟨?_, rfl⟩
        unfold xHas
        rw [decide_eq_false (fun q => by
          rcases q with q | q | q
          · exact nC q
          · exact nY q
          · exact nW q)]; rfl
/-- a name's letters -/
theorem pX.na (hX : pX c z h S P A N) {j : Nat} (hj : j < N) (hk : tkK A j = 1) : ∃ n, 1 ≤ n ∧ n ≤ 8 ∧ S (c + 7) j = nI (tkP A j + n) ∧ tkP A j + n ≤ P.length ∧ tkN A j = nmL P (tkP A j) n ∧ ∀ i, i < n → isL (by8 P (tkP A j + i)) = true := by
  have hkk : (A.getD j tk0).1 = tkK A j := rfl
  rcases (hX.tk hj).2 with ⟨e, -⟩ | ⟨e, -⟩ | ⟨e, -, n, t⟩ | ⟨e, -, -⟩ | ⟨⟨e, e2⟩, -, -⟩ | ⟨e, -, -⟩
  · rw [hkk] at e; omega
  · rw [hkk] at e; omega
  · exact ⟨n, t⟩
  · rw [hkk] at e; omega
  · rw [hkk] at e; omega
  · unfold isSg at e; rw [hkk] at e; omega
theorem zX3_name (hc : csZ E) (he : seN E) (hX : pX c z h S P A N) (hI : pI c S N q o) (hta : zr h (c + 9) 2 = some ta) (hct : c + 606 ≤ ta) (hp : txP z h S ta dE eA B x) : zM l E 7 YX3_name [.ref (c + 9)] (z, h, S, L) 4 32 (fun r X => ∃ q' h' S' L', pName A (xHas x) q = .ok q' ∧ r = some (.ref (z + 2)) ∧ X = (z + 4, h', S', L') ∧ pG c (z, h, S, L) (z + 4, h', S', L') ∧ pI c S' N q' o ∧ isSt h' S' (fun a => z ≤ a ∧ a < z + 4) (z + 2) (tkN A q.1) ∧ q'.1 = q.1 + 1) (exT z h S L c (pName A (xHas x) q)) := by
  have hB := hX.1
  have hNl := hX.n
  refine zM.go rfl rfl (Nat.le_of_ble_eq_true rfl) (ls := [some (.ref (c + 9)), none, none]) rfl ?_
  intro V hVl hVE hVd hVc hVs hVQ hVX
  refine sX3_name_0 _ _ _ _ _ ?_
  simp (disch := omega) only [oAld, oCV, oPush, hB.pk, List.getElem?_cons_zero, List.getElem?_cons_succ, List.set_cons_zero, List.set_cons_succ, List.drop_succ_cons, List.drop_zero, List.take_succ_cons, List.take_zero, List.length_cons, List.length_nil, List.reverse_cons, List.reverse_nil, List.nil_append, List.cons_append, Option.toList_some, Option.toList_none, va_rf_s, true_and, and_true, true_implies, false_implies, not_true_eq_false, not_false_eq_true, Nat.reduceAdd, Nat.reduceLeDiff, Nat.le_add_left, Nat.zero_le, Nat.le_refl, znew, true_or, or_true, b01_t, b01_f, b01_ok, bool_ft, vp_b01, vp_b0, vp_b1, b01_eq0, b01_eq1, implies_true, nI_add, nI_clamp, zi_in, zi_le_t, zi_le_f, zi_lt_t, zi_lt_f, zi_eq_t, zi_eq_f, nI_leI, nI_ltI, nI_eq, z_in, pk_mul, zu_same, zu_rw, zu_ix, zi_ne0, zi_sub, zi_m1, Nat.add_sub_cancel, Nat.reduceMul, Nat.reduceSub]
  refine zC.of (zX3_take hX hI (k := 1) (s := 0) (Or.inl ⟨rfl, rfl⟩)) (by omega) (by omega) (by omega) ?_ ?_
  · rintro _ _ ⟨rfl, hk, q1, S1, e1, rfl, f1, p1⟩
    obtain ⟨eq1, -, h4⟩ := cMust_ok e1
    have hq1 : q1.1 = q.1 + 1 := by rw [eq1]
    have hX1 := hX.fs f1
    have hq := hI.2.2.2.2.1.2
    obtain ⟨n, n1, n8, t7, t8, t9, t10⟩ := hX1.na hq hk
    refine sX3_name_5 _ _ _ _ _ ?_
    simp (disch := omega) only [oAld, oCV, oGR, oIld, oIst, hB.pk, hB.pr0, hB.tk, List.getElem?_cons_zero, List.getElem?_cons_succ, List.set_cons_zero, List.set_cons_succ, List.drop_succ_cons, List.drop_zero, List.take_succ_cons, List.take_zero, List.length_cons, List.length_nil, List.reverse_cons, List.reverse_nil, List.nil_append, List.cons_append, Option.toList_some, Option.toList_none, va_rf_s, true_and, and_true, true_implies, false_implies, not_true_eq_false, not_false_eq_true, Nat.reduceAdd, Nat.reduceLeDiff, Nat.le_add_left, Nat.zero_le, Nat.le_refl, znew, true_or, or_true, b01_t, b01_f, b01_ok, bool_ft, vp_b01, vp_b0, vp_b1, b01_eq0, b01_eq1, implies_true, nI_add, nI_clamp, zi_in, zi_le_t, zi_le_f, zi_lt_t, zi_lt_f, zi_eq_t, zi_eq_f, nI_leI, nI_ltI, nI_eq, z_in, pk_mul, zu_same, zu_rw, zu_ix, zi_ne0, zi_sub, zi_m1, Nat.add_sub_cancel, Nat.reduceMul, Nat.reduceSub]
    refine zC.ofN (zX2_text hB hX.2.1 hX1.2.2.1 hX.2.2.2.1 (by rw [hVE]; exact hc) (by rw [hVE]; exact he) (show q.1 < 2001 by omega) (hX1.pl hq).1 t7 n8 t8 t10) (by omega) (by omega) (by omega) ?_
    rintro _ _ ⟨rfl, h2, S2, L2, rfl, g2, st2⟩
    rw [← t9] at st2
    have g2' : pG c (z, h, S1, L) (z + 4, h2, S2, L2) := pG.w g2
    have gA : pG c (z, h, S, L) (z + 4, h2, S2, L2) := (pG.s f1).tr g2'
    have hX2 : pX c (z + 4) h2 S2 P A N := hX.g (X := (z, h, S, L)) gA
    have hp2 : txP (z + 4) h2 S2 ta dE eA B x := hp.g hct gA
    have hcz := hX.2.1
    have r9 : zr h2 (c + 9) 2 = some ta := by
      have : h2 (c + 9) = h (c + 9) := (gA.2 (c + 9) (show c + 9 < z by omega)).1
      unfold zr; rw [this]; exact hta
    have hI2 : pI c S2 N q1 o := p1.r (((g2.2 (c + 9) (show c + 9 < z by omega)).1 (fun w => w)).2)
    have hB := hX2.1
    have tt := hp2.1.1
    have hT : pName A (xHas x) q = .ok (q1.1, if xHas x (tkN A q.1) = true then pTell 3 q.1 q1.2 else q1.2) := by unfold pName; rw [e1]; rfl
    refine sX3_name_14 _ _ _ _ _ ?_
    simp (disch := omega) only [oAld, oAst, oCV, oGR, hB.pk, r9, tt, List.getElem?_cons_zero, List.getElem?_cons_succ, List.set_cons_zero, List.set_cons_succ, List.drop_succ_cons, List.drop_zero, List.take_succ_cons, List.take_zero, List.length_cons, List.length_nil, List.reverse_cons, List.reverse_nil, List.nil_append, List.cons_append, Option.toList_some, Option.toList_none, va_rf_s, true_and, and_true, true_implies, false_implies, not_true_eq_false, not_false_eq_true, Nat.reduceAdd, Nat.reduceLeDiff, Nat.le_add_left, Nat.zero_le, Nat.le_refl, znew, true_or, or_true, b01_t, b01_f, b01_ok, bool_ft, vp_b01, vp_b0, vp_b1, b01_eq0, b01_eq1, implies_true, nI_add, nI_clamp, zi_in, zi_le_t, zi_le_f, zi_lt_t, zi_lt_f, zi_eq_t, zi_eq_f, nI_leI, nI_ltI, nI_eq, z_in, pk_mul, zu_same, zu_rw, zu_ix, zi_ne0, zi_sub, zi_m1, Nat.add_sub_cancel, Nat.reduceMul, Nat.reduceSub]
    refine zC.ofN (zX4_has (by rw [hVE]; exact hc) hp2 st2) (by omega) (by omega) (by omega) ?_
    rintro _ _ ⟨rfl, rfl⟩
    cases hb : xHas x (tkN A q.1) with
    | true =>
      rw [if_pos hb] at hT
      refine sX3_name_23 _ _ _ _ _ ?_
      simp (disch := omega) only [oAld, oCV, oIf, oIld, oPush, hB.pk, List.getElem?_cons_zero, List.getElem?_cons_succ, List.set_cons_zero, List.set_cons_succ, List.drop_succ_cons, List.drop_zero, List.take_succ_cons, List.take_zero, List.length_cons, List.length_nil, List.reverse_cons, List.reverse_nil, List.nil_append, List.cons_append, Option.toList_some, Option.toList_none, va_rf_s, true_and, and_true, true_implies, false_implies, not_true_eq_false, not_false_eq_true, Nat.reduceAdd, Nat.reduceLeDiff, Nat.le_add_left, Nat.zero_le, Nat.le_refl, znew, true_or, or_true, b01_t, b01_f, b01_ok, bool_ft, vp_b01, vp_b0, vp_b1, b01_eq0, b01_eq1, implies_true, nI_add, nI_clamp, zi_in, zi_le_t, zi_le_f, zi_lt_t, zi_lt_f, zi_eq_t, zi_eq_f, nI_leI, nI_ltI, nI_eq, z_in, pk_mul, zu_same, zu_rw, zu_ix, zi_ne0, zi_sub, zi_m1, Nat.add_sub_cancel, Nat.reduceMul, Nat.reduceSub]
      refine zC.ofN (zX3_tell hB hI2 (n := 3) (t := q.1) (by omega) (by omega)) (by omega) (by omega) (by omega) ?_
      rintro _ _ ⟨rfl, S3, rfl, f3, p3⟩
      refine sX3_name_32 _ _ _ _ _ ?_
      simp (disch := omega) only [oAld, oRA, hVc, hVs, List.getElem?_cons_zero, List.getElem?_cons_succ, List.set_cons_zero, List.set_cons_succ, List.drop_succ_cons, List.drop_zero, List.take_succ_cons, List.take_zero, List.length_cons, List.length_nil, List.reverse_cons, List.reverse_nil, List.nil_append, List.cons_append, Option.toList_some, Option.toList_none, va_rf_s, true_and, and_true, true_implies, false_implies, not_true_eq_false, not_false_eq_true, Nat.reduceAdd, Nat.reduceLeDiff, Nat.le_add_left, Nat.zero_le, Nat.le_refl, znew, true_or, or_true, b01_t, b01_f, b01_ok, bool_ft, vp_b01, vp_b0, vp_b1, b01_eq0, b01_eq1, implies_true, nI_add, nI_clamp, zi_in, zi_le_t, zi_le_f, zi_lt_t, zi_lt_f, zi_eq_t, zi_eq_f, nI_leI, nI_ltI, nI_eq, z_in, pk_mul, zu_same, zu_rw, zu_ix, zi_ne0, zi_sub, zi_m1, Nat.add_sub_cancel, Nat.reduceMul, Nat.reduceSub]
      refine hVQ _ _ ⟨_, h2, S3, L2, hT, rfl, rfl, gA.tr (pG.s f3), p3, st2.fr (fun a ha => f3 a (by omega) (by omega)) (fun _ _ => rfl) (fun _ ha => ha), hq1⟩
    | false =>
      rw [if_neg (by rw [hb]; decide)] at hT
      refine sX3_name_23 _ _ _ _ _ ?_
      simp (disch := omega) only [oAld, oCV, oIf, oIld, oPush, hB.pk, List.getElem?_cons_zero, List.getElem?_cons_succ, List.set_cons_zero, List.set_cons_succ, List.drop_succ_cons, List.drop_zero, List.take_succ_cons, List.take_zero, List.length_cons, List.length_nil, List.reverse_cons, List.reverse_nil, List.nil_append, List.cons_append, Option.toList_some, Option.toList_none, va_rf_s, true_and, and_true, true_implies, false_implies, not_true_eq_false, not_false_eq_true, Nat.reduceAdd, Nat.reduceLeDiff, Nat.le_add_left, Nat.zero_le, Nat.le_refl, znew, true_or, or_true, b01_t, b01_f, b01_ok, bool_ft, vp_b01, vp_b0, vp_b1, b01_eq0, b01_eq1, implies_true, nI_add, nI_clamp, zi_in, zi_le_t, zi_le_f, zi_lt_t, zi_lt_f, zi_eq_t, zi_eq_f, nI_leI, nI_ltI, nI_eq, z_in, pk_mul, zu_same, zu_rw, zu_ix, zi_ne0, zi_sub, zi_m1, Nat.add_sub_cancel, Nat.reduceMul, Nat.reduceSub]
      refine sX3_name_32 _ _ _ _ _ ?_
      simp (disch := omega) only [oAld, oRA, hVc, hVs, List.getElem?_cons_zero, List.getElem?_cons_succ, List.set_cons_zero, List.set_cons_succ, List.drop_succ_cons, List.drop_zero, List.take_succ_cons, List.take_zero, List.length_cons, List.length_nil, List.reverse_cons, List.reverse_nil, List.nil_append, List.cons_append, Option.toList_some, Option.toList_none, va_rf_s, true_and, and_true, true_implies, false_implies, not_true_eq_false, not_false_eq_true, Nat.reduceAdd, Nat.reduceLeDiff, Nat.le_add_left, Nat.zero_le, Nat.le_refl, znew, true_or, or_true, b01_t, b01_f, b01_ok, bool_ft, vp_b01, vp_b0, vp_b1, b01_eq0, b01_eq1, implies_true, nI_add, nI_clamp, zi_in, zi_le_t, zi_le_f, zi_lt_t, zi_lt_f, zi_eq_t, zi_eq_f, nI_leI, nI_ltI, nI_eq, z_in, pk_mul, zu_same, zu_rw, zu_ix, zi_ne0, zi_sub, zi_m1, Nat.add_sub_cancel, Nat.reduceMul, Nat.reduceSub]
      exact hVQ _ _ ⟨_, h2, S2, L2, hT, rfl, rfl, gA, hI2, st2, hq1⟩
  · rintro _ _ ⟨e, S1, e1, rfl, rfl, f1, f4⟩
    exact ⟨hVX _ _ ⟨e, z, h, S1, L, by unfold pName; rw [e1]; rfl, rfl, rfl, pG.s f1, f4⟩, by omega, by omega⟩
theorem zX3_known (hc : csZ E) (he : seN E) (hX : pX c z h S P A N) (hI : pI c S N q o) (hct : c + 606 ≤ ta) (hp : txP z h S ta dE eA B x) : zM l E 7 YX3_known [.ref (c + 9), .ref (ta + 1)] (z, h, S, L) 4 32 (fun r X => ∃ v q' h' S' L', pKn A (xKn x) q = .ok (v, q') ∧ r = some (.int (oM v)) ∧ X = (z + 4, h', S', L') ∧ pG c (z, h, S, L) (z + 4, h', S', L') ∧ pI c S' N q' o ∧ q'.1 = q.1 + 1) (exT z h S L c (pKn A (xKn x) q)) := by
  have hB := hX.1
  have hNl := hX.n
  refine zM.go rfl rfl (Nat.le_of_ble_eq_true rfl) (ls := [some (.ref (c + 9)), some (.ref (ta + 1)), none, none]) rfl ?_
  intro V hVl hVE hVd hVc hVs hVQ hVX
  refine sX3_known_0 _ _ _ _ _ ?_
  simp (disch := omega) only [oAld, oCV, oPush, hB.pk, List.getElem?_cons_zero, List.getElem?_cons_succ, List.set_cons_zero, List.set_cons_succ, List.drop_succ_cons, List.drop_zero, List.take_succ_cons, List.take_zero, List.length_cons, List.length_nil, List.reverse_cons, List.reverse_nil, List.nil_append, List.cons_append, Option.toList_some, Option.toList_none, va_rf_s, true_and, and_true, true_implies, false_implies, not_true_eq_false, not_false_eq_true, Nat.reduceAdd, Nat.reduceLeDiff, Nat.le_add_left, Nat.zero_le, Nat.le_refl, znew, true_or, or_true, b01_t, b01_f, b01_ok, bool_ft, vp_b01, vp_b0, vp_b1, b01_eq0, b01_eq1, implies_true, nI_add, nI_clamp, zi_in, zi_le_t, zi_le_f, zi_lt_t, zi_lt_f, zi_eq_t, zi_eq_f, nI_leI, nI_ltI, nI_eq, z_in, pk_mul, zu_same, zu_rw, zu_ix, zi_ne0, zi_sub, zi_m1, Nat.add_sub_cancel, Nat.reduceMul, Nat.reduceSub]
  refine zC.of (zX3_take hX hI (k := 1) (s := 0) (Or.inl ⟨rfl, rfl⟩)) (by omega) (by omega) (by omega) ?_ ?_
  · rintro _ _ ⟨rfl, hk, q1, S1, e1, rfl, f1, p1⟩
    obtain ⟨eq1, -, h4⟩ := cMust_ok e1
    have hq1 : q1.1 = q.1 + 1 := by rw [eq1]
    have hX1 := hX.fs f1
    have hq := hI.2.2.2.2.1.2
    obtain ⟨n, n1, n8, t7, t8, t9, t10⟩ := hX1.na hq hk
    refine sX3_known_5 _ _ _ _ _ ?_
    simp (disch := omega) only [oAld, oCV, oGR, oIld, oIst, hB.pk, hB.pr0, hB.tk, List.getElem?_cons_zero, List.getElem?_cons_succ, List.set_cons_zero, List.set_cons_succ, List.drop_succ_cons, List.drop_zero, List.take_succ_cons, List.take_zero, List.length_cons, List.length_nil, List.reverse_cons, List.reverse_nil, List.nil_append, List.cons_append, Option.toList_some, Option.toList_none, va_rf_s, true_and, and_true, true_implies, false_implies, not_true_eq_false, not_false_eq_true, Nat.reduceAdd, Nat.reduceLeDiff, Nat.le_add_left, Nat.zero_le, Nat.le_refl, znew, true_or, or_true, b01_t, b01_f, b01_ok, bool_ft, vp_b01, vp_b0, vp_b1, b01_eq0, b01_eq1, implies_true, nI_add, nI_clamp, zi_in, zi_le_t, zi_le_f, zi_lt_t, zi_lt_f, zi_eq_t, zi_eq_f, nI_leI, nI_ltI, nI_eq, z_in, pk_mul, zu_same, zu_rw, zu_ix, zi_ne0, zi_sub, zi_m1, Nat.add_sub_cancel, Nat.reduceMul, Nat.reduceSub]
    refine zC.ofN (zX2_text hB hX.2.1 hX1.2.2.1 hX.2.2.2.1 (by rw [hVE]; exact hc) (by rw [hVE]; exact he) (show q.1 < 2001 by omega) (hX1.pl hq).1 t7 n8 t8 t10) (by omega) (by omega) (by omega) ?_
    rintro _ _ ⟨rfl, h2, S2, L2, rfl, g2, st2⟩
    rw [← t9] at st2
    have gA : pG c (z, h, S, L) (z + 4, h2, S2, L2) := (pG.s f1).tr (pG.w g2)
    have hX2 : pX c (z + 4) h2 S2 P A N := hX.g (X := (z, h, S, L)) gA
    have hp2 : txP (z + 4) h2 S2 ta dE eA B x := hp.g hct gA
    have hcz := hX.2.1
    have hI2 : pI c S2 N q1 o := p1.r (((g2.2 (c + 9) (show c + 9 < z by omega)).1 (fun w => w)).2)
    have hB := hX2.1
    have hT : pKn A (xKn x) q = match xKn x (tkN A q.1) with
      | some c => .ok (some c, q1)
      | none => .ok (none, q1.1, pTell 4 q.1 q1.2) := by unfold pKn; rw [e1]; rfl
    have l0 := hp2.ls (k := 0) (by omega)
    have b0 := l0.2.2.1
    refine sX3_known_15 _ _ _ _ _ ?_
    simp (disch := omega) only [oCS, List.getElem?_cons_zero, List.getElem?_cons_succ, List.set_cons_zero, List.set_cons_succ, List.drop_succ_cons, List.drop_zero, List.take_succ_cons, List.take_zero, List.length_cons, List.length_nil, List.reverse_cons, List.reverse_nil, List.nil_append, List.cons_append, Option.toList_some, Option.toList_none, va_rf_s, true_and, and_true, true_implies, false_implies, not_true_eq_false, not_false_eq_true, Nat.reduceAdd, Nat.reduceLeDiff, Nat.le_add_left, Nat.zero_le, Nat.le_refl, znew, true_or, or_true, b01_t, b01_f, b01_ok, bool_ft, vp_b01, vp_b0, vp_b1, b01_eq0, b01_eq1, implies_true, nI_add, nI_clamp, zi_in, zi_le_t, zi_le_f, zi_lt_t, zi_lt_f, zi_eq_t, zi_eq_f, nI_leI, nI_ltI, nI_eq, z_in, pk_mul, zu_same, zu_rw, zu_ix, zi_ne0, zi_sub, zi_m1, Nat.add_sub_cancel, Nat.reduceMul, Nat.reduceSub]
    refine zC.ofN (zX4_at (nm := fun i => (xC x).getD i []) (by rw [hVE]; exact hc) l0 hp2.nm0 st2) (by omega) (by omega) (by omega) ?_
    rintro _ _ ⟨rfl, rfl⟩
    have hxk : firstF (fun i => decide ((xC x).getD i [] = tkN A q.1)) (xn x 0) = xKn x (tkN A q.1) := rfl
    rw [hxk]
    cases hv : xKn x (tkN A q.1) with
    | some k =>
      rw [hv] at hT
      have hkb : k < xn x 0 := (firstF_lt (hxk.trans hv)).1
      rw [oM_s]
      refine sX3_known_18 _ _ _ _ _ ?_
      simp (disch := omega) only [oAld, oCV, oIf, oIld, oIst, oPush, hB.pk, List.getElem?_cons_zero, List.getElem?_cons_succ, List.set_cons_zero, List.set_cons_succ, List.drop_succ_cons, List.drop_zero, List.take_succ_cons, List.take_zero, List.length_cons, List.length_nil, List.reverse_cons, List.reverse_nil, List.nil_append, List.cons_append, Option.toList_some, Option.toList_none, va_rf_s, true_and, and_true, true_implies, false_implies, not_true_eq_false, not_false_eq_true, Nat.reduceAdd, Nat.reduceLeDiff, Nat.le_add_left, Nat.zero_le, Nat.le_refl, znew, true_or, or_true, b01_t, b01_f, b01_ok, bool_ft, vp_b01, vp_b0, vp_b1, b01_eq0, b01_eq1, implies_true, nI_add, nI_clamp, zi_in, zi_le_t, zi_le_f, zi_lt_t, zi_lt_f, zi_eq_t, zi_eq_f, nI_leI, nI_ltI, nI_eq, z_in, pk_mul, zu_same, zu_rw, zu_ix, zi_ne0, zi_sub, zi_m1, Nat.add_sub_cancel, Nat.reduceMul, Nat.reduceSub]
      refine sX3_known_29 _ _ _ _ _ ?_
      simp (disch := omega) only [oIld, oRI, hVc, hVs, List.getElem?_cons_zero, List.getElem?_cons_succ, List.set_cons_zero, List.set_cons_succ, List.drop_succ_cons, List.drop_zero, List.take_succ_cons, List.take_zero, List.length_cons, List.length_nil, List.reverse_cons, List.reverse_nil, List.nil_append, List.cons_append, Option.toList_some, Option.toList_none, va_rf_s, true_and, and_true, true_implies, false_implies, not_true_eq_false, not_false_eq_true, Nat.reduceAdd, Nat.reduceLeDiff, Nat.le_add_left, Nat.zero_le, Nat.le_refl, znew, true_or, or_true, b01_t, b01_f, b01_ok, bool_ft, vp_b01, vp_b0, vp_b1, b01_eq0, b01_eq1, implies_true, nI_add, nI_clamp, zi_in, zi_le_t, zi_le_f, zi_lt_t, zi_lt_f, zi_eq_t, zi_eq_f, nI_leI, nI_ltI, nI_eq, z_in, pk_mul, zu_same, zu_rw, zu_ix, zi_ne0, zi_sub, zi_m1, Nat.add_sub_cancel, Nat.reduceMul, Nat.reduceSub]
      exact hVQ _ _ ⟨_, _, h2, S2, L2, hT, rfl, rfl, gA, hI2, hq1⟩
    | none =>
      rw [hv] at hT
      rw [oM_n]
      refine sX3_known_18 _ _ _ _ _ ?_
      simp (disch := omega) only [oAld, oCV, oIf, oIld, oIst, oPush, hB.pk, m1_le0, List.getElem?_cons_zero, List.getElem?_cons_succ, List.set_cons_zero, List.set_cons_succ, List.drop_succ_cons, List.drop_zero, List.take_succ_cons, List.take_zero, List.length_cons, List.length_nil, List.reverse_cons, List.reverse_nil, List.nil_append, List.cons_append, Option.toList_some, Option.toList_none, va_rf_s, true_and, and_true, true_implies, false_implies, not_true_eq_false, not_false_eq_true, Nat.reduceAdd, Nat.reduceLeDiff, Nat.le_add_left, Nat.zero_le, Nat.le_refl, znew, true_or, or_true, b01_t, b01_f, b01_ok, bool_ft, vp_b01, vp_b0, vp_b1, b01_eq0, b01_eq1, implies_true, nI_add, nI_clamp, zi_in, zi_le_t, zi_le_f, zi_lt_t, zi_lt_f, zi_eq_t, zi_eq_f, nI_leI, nI_ltI, nI_eq, z_in, pk_mul, zu_same, zu_rw, zu_ix, zi_ne0, zi_sub, zi_m1, Nat.add_sub_cancel, Nat.reduceMul, Nat.reduceSub]
      refine zC.ofN (zX3_tell hB hI2 (n := 4) (t := q.1) (by omega) (by omega)) (by omega) (by omega) (by omega) ?_
      rintro _ _ ⟨rfl, S3, rfl, f3, p3⟩
      refine sX3_known_29 _ _ _ _ _ ?_
      simp (disch := omega) only [oIld, oRI, hVc, hVs, List.getElem?_cons_zero, List.getElem?_cons_succ, List.set_cons_zero, List.set_cons_succ, List.drop_succ_cons, List.drop_zero, List.take_succ_cons, List.take_zero, List.length_cons, List.length_nil, List.reverse_cons, List.reverse_nil, List.nil_append, List.cons_append, Option.toList_some, Option.toList_none, va_rf_s, true_and, and_true, true_implies, false_implies, not_true_eq_false, not_false_eq_true, Nat.reduceAdd, Nat.reduceLeDiff, Nat.le_add_left, Nat.zero_le, Nat.le_refl, znew, true_or, or_true, b01_t, b01_f, b01_ok, bool_ft, vp_b01, vp_b0, vp_b1, b01_eq0, b01_eq1, implies_true, nI_add, nI_clamp, zi_in, zi_le_t, zi_le_f, zi_lt_t, zi_lt_f, zi_eq_t, zi_eq_f, nI_leI, nI_ltI, nI_eq, z_in, pk_mul, zu_same, zu_rw, zu_ix, zi_ne0, zi_sub, zi_m1, Nat.add_sub_cancel, Nat.reduceMul, Nat.reduceSub]
      exact hVQ _ _ ⟨_, _, h2, S3, L2, hT, rfl, rfl, gA.tr (pG.s f3), p3, hq1⟩
  · rintro _ _ ⟨e, S1, e1, rfl, rfl, f1, f4⟩
    exact ⟨hVX _ _ ⟨e, z, h, S1, L, by unfold pKn; rw [e1]; rfl, rfl, rfl, pG.s f1, f4⟩, by omega, by omega⟩
end FF
