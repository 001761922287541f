/-! the component: sums and laws -/
theorem tev_app {v : Nat → Int32} : ∀ (a b : zCd) (st : List Int32), tev v (a ++ b) st = match tev v a st with
    | none => none
    | some s => tev v b s
  | [], b, st => rfl
  | q :: a, b, st => by
    rw [List.cons_append, tev, tev]
    cases tstep v q st with
    | none => rfl
    | some s => exact tev_app a b s
theorem tev_lift {v : Nat → Int32} : ∀ (c : zCd) (d r : Nat) (s1 st : List Int32), tdep c d = some r → s1.length = d → (∀ l, tev v c s1 = some l → l.length = r) ∧ tev v c (s1 ++ st) = (tev v c s1).map (fun l => l ++ st)
  | [], d, r, s1, st, h, hl => by
    have e : d = r := by simpa [tdep] using h
    exact ⟨fun l hl2 => by cases hl2; omega, rfl⟩
  | q :: c, d, r, s1, st, h, hl => by
    rw [tdep] at h
    rw [tev, tev]
    by_cases h0 : q.1 = 0
    · rw [if_pos h0] at h
      have e1 : tstep v q s1 = some (q.2 :: s1) := by unfold tstep; rw [if_pos h0]
      have e2 : tstep v q (s1 ++ st) = some (q.2 :: (s1 ++ st)) := by unfold tstep; rw [if_pos h0]
      rw [e1, e2]
      exact tev_lift c (d + 1) r (q.2 :: s1) st h (by rw [List.length_cons, hl])
    · rw [if_neg h0] at h
      by_cases h1 : q.1 = 1
      · rw [if_pos h1] at h
        have e1 : ∀ s, tstep v q s = some (v q.2.toNatClampNeg :: s) := fun s => by unfold tstep; rw [if_neg h0, if_pos h1]
        split at h
        · rw [e1, e1]
          exact tev_lift c (d + 1) r (v q.2.toNatClampNeg :: s1) st h (by rw [List.length_cons, hl])
        · cases h
      · rw [if_neg h1] at h
        split at h
        · rename_i h5
          match s1, hl with
          | [], hl => simp at hl; omega
          | [x], hl => simp at hl; omega
          | y :: x :: s, hl =>
            have e1 : ∀ s', tstep v q (y :: x :: s') = if q.1 = 5 ∧ y = nI 0 then none else some ((if q.1 = 2 then x + y else if q.1 = 3 then x - y else if q.1 = 4 then x * y else x / y) :: s') := fun s' => by unfold tstep; rw [if_neg h0, if_neg h1]
            rw [List.cons_append, List.cons_append, e1, e1]
            by_cases hz : q.1 = 5 ∧ y = nI 0
            · rw [if_pos hz, if_pos hz]
              exact ⟨fun l hl2 => (by cases hl2), rfl⟩
            · rw [if_neg hz, if_neg hz]
              refine tev_lift c (d - 1) r _ st h ?_
              simp only [List.length_cons] at hl ⊢
              omega
        · cases h
/-- what a sum comes to; none: something is divided by nought -/
def evO (v : Nat → Int32) (c : zCd) : Option Int32 := match tev v c [] with
  | none => none
  | some l => some (tval (some l))
theorem evO_none {v : Nat → Int32} {c : zCd} (h : evO v c = none) : tev v c [] = none := by
  unfold evO at h
  split at h
  · assumption
  · cases h
theorem evO_some {v : Nat → Int32} {c : zCd} {x : Int32} (hc : one1 c) (h : evO v c = some x) : tev v c [] = some [x] := by
  unfold evO at h
  split at h
  · cases h
  · rename_i l hl
    have h1 := (tev_lift (v := v) c 0 1 [] [] (hc 0) rfl).1 l hl
    match l, h1 with
    | [y], _ => cases h; exact hl
theorem evO_op {v : Nat → Int32} {c1 c2 : zCd} {k : Nat} (h1 : one1 c1) (h2 : one1 c2) (hk : 2 ≤ k) : evO v (c1 ++ (c2 ++ [(k, nI 0)])) = match evO v c1, evO v c2 with
    | some x, some y => if k = 5 ∧ y = nI 0 then none else some (if k = 2 then x + y else if k = 3 then x - y else if k = 4 then x * y else x / y)
    | _, _ => none := by
  cases e1 : evO v c1 with
  | none =>
    have e := evO_none e1
    unfold evO
    rw [tev_app, e]
  | some x =>
    have e := evO_some h1 e1
    have l2 := (tev_lift (v := v) c2 0 1 [] [x] (h2 0) rfl).2
    rw [List.nil_append] at l2
    cases e2 : evO v c2 with
    | none =>
      have e' := evO_none e2
      rw [e'] at l2
      unfold evO
      rw [tev_app, e]
      show (match tev v (c2 ++ [(k, nI 0)]) [x] with | none => none | some l => some (tval (some l))) = _
      rw [tev_app, l2]; rfl
    | some y =>
      have e' := evO_some h2 e2
      rw [e'] at l2
      unfold evO
      rw [tev_app, e]
      show (match tev v (c2 ++ [(k, nI 0)]) [x] with | none => none | some l => some (tval (some l))) = _
      rw [tev_app, l2]
      show (match tev v [(k, nI 0)] [y, x] with | none => none | some l => some (tval (some l))) = (if k = 5 ∧ y = nI 0 then none else some (if k = 2 then x + y else if k = 3 then x - y else if k = 4 then x * y else x / y))
      have e3 : tstep v (k, nI 0) [y, x] = if k = 5 ∧ y = nI 0 then none else some [if k = 2 then x + y else if k = 3 then x - y else if k = 4 then x * y else x / y] := by
        unfold tstep
        rw [if_neg (show ¬ k = 0 by omega), if_neg (show ¬ k = 1 by omega)]
      rw [tev, e3]
      by_cases hz : k = 5 ∧ y = nI 0
      · rw [if_pos hz, if_pos hz]
      · rw [if_neg hz, if_neg hz]; rfl
def opCh (o : Nat) : Nat := if o = 8 then 43 else if o = 9 then 45 else if o = 10 then 42 else 47
/-- a sum's tree, by its code -/
def isSum (h : Nat → Option zSh) (S : Nat → Nat → Int32) (ok : Nat → Prop) : Nat → Nat → zCd → Prop
  | 0, _, _ => False
  | d + 1, a, cl => ok a ∧ ((zt h a = 33 ∧ cl = [(0, S a 0)]) ∨ (zt h a = 34 ∧ ∃ k, k < 9 ∧ S a 0 = nI k ∧ cl = [(1, nI k)]) ∨ (zt h a = 35 ∧ ∃ o a1 a2 c1 c2, isOp o ∧ S a 0 = nI (opCh o) ∧ zr h a 1 = some a1 ∧ zr h a 2 = some a2 ∧ isSum h S ok d a1 c1 ∧ isSum h S ok d a2 c2 ∧ cl = c1 ++ (c2 ++ [(opN o, nI 0)])))
theorem isSum.one {h : Nat → Option zSh} {S : Nat → Nat → Int32} {ok : Nat → Prop} : ∀ {d a : Nat} {cl : zCd}, isSum h S ok d a cl → one1 cl
  | 0, _, _, h => h.elim
  | d + 1, a, cl, h => by
    rcases h.2 with ⟨-, rfl⟩ | ⟨-, k, hk, -, rfl⟩ | ⟨-, o, a1, a2, c1, c2, -, -, -, -, h1, h2, rfl⟩
    · intro d; rfl
    · intro d
      have : okI (nI k) 9 = true := by rw [okI_nI (by omega)]; exact decide_eq_true hk
      rw [tdep, if_neg (by simp), if_pos rfl, if_pos this]; rfl
    · exact one1_op h1.one h2.one o
theorem isSum.fr {h h' : Nat → Option zSh} {S S' : Nat → Nat → Int32} {ok ok' : Nat → Prop} (hS : ∀ a, ok a → S' a = S a) (hh : ∀ a, ok a → h' a = h a) (hok : ∀ a, ok a → ok' a) : ∀ {d a : Nat} {cl : zCd}, isSum h S ok d a cl → isSum h' S' ok' d a cl
  | 0, _, _, hs => hs.elim
  | d + 1, a, cl, hs => by
    have e1 : zt h' a = zt h a := by unfold zt; rw [hh a hs.1]
    have e2 : zr h' a = zr h a := by unfold zr; rw [hh a hs.1]
    refine ⟨hok a hs.1, ?_⟩
    rw [hS a hs.1, e1, e2]
    rcases hs.2 with q | q | ⟨q0, o, a1, a2, c1, c2, q1, q2, q3, q4, h1, h2, q5⟩
    · exact Or.inl q
    · exact Or.inr (Or.inl q)
    · exact Or.inr (Or.inr ⟨q0, o, a1, a2, c1, c2, q1, q2, q3, q4, isSum.fr hS hh hok h1, isSum.fr hS hh hok h2, q5⟩)
/-- the asked one: object qa, its numbers at qv -/
def isAk (h : Nat → Option zSh) (qa qv : Nat) : Prop := zt h qa = 26 ∧ zr h qa 0 = some qv ∧ zt h qv = 0 ∧ zn h qv = 9 ∧ qa ≠ qv
def sumR (S S' : Nat → Nat → Int32) (qa : Nat) (o : Option Int32) (v : Int32) : Prop := match o with
  | some x => v = x ∧ S' = S
  | none => S' = zu S qa 1 (nI 1)
abbrev tbS : List (Nat × zY) := [(13, YX13_of), (14, YX14_of), (15, YX15_of)]
theorem zu_zu {α : Type} (S : Nat → Nat → α) (a k : Nat) (v w : α) : zu (zu S a k v) a k w = zu S a k w := by
  funext b j
  unfold zu
  split <;> rfl
section CB
variable {l : Launch} {E : zE} {z : Nat} {h : Nat → Option zSh} {S : Nat → Nat → Int32} {L : Nat → Nat → Int64}
theorem zsw42 {x : Int32} {K0 K1 K2 K3 Kd : zK} {ls : List (Option Value)} {r : List Value} {X : zX} {k n : Nat} (h0 : x = nI 42 → K0 ls r X k n) (h1 : x = nI 43 → K1 ls r X k n) (h2 : x = nI 44 → K2 ls r X k n) (h3 : x = nI 45 → K3 ls r X k n) (hd : (∀ j, 42 ≤ j → j < 46 → x ≠ nI j) → Kd ls r X k n) : oTsw 42 [K0, K1, K2, K3] Kd ls (.int x :: r) X k n := by
  refine zswg (lo := 42) (by omega) (by simp) (fun i K hi hx => ?_) (fun q => hd (fun j hj hj2 => q j (by omega) (by simp; omega)))
  match i, hi with
  | 0, hi => cases hi; exact h0 hx
  | 1, hi => cases hi; exact h1 hx
  | 2, hi => cases hi; exact h2 hx
  | 3, hi => cases hi; exact h3 hx
  | i + 4, hi => simp at hi
theorem zSum {ok : Nat → Prop} {qa qv : Nat} (hA : isAk h qa qv) (hq : ¬ ok qa) : ∀ (d a : Nat) (cl : zCd), isSum h S ok d a cl → ∃ q ∈ tbS, zt h a = 20 + q.1 ∧ ∀ S1 : Nat → Nat → Int32, (∀ a, ok a → S1 a = S a) → zM l E d q.2 [.ref a, .ref qa] (z, h, S1, L) 0 0 (fun r X => ∃ v S', r = some (.int v) ∧ X = (z, h, S', L) ∧ sumR S1 S' qa (evO (S1 qv) cl) v) (fun _ _ => False)
  | 0, _, _, hs => hs.elim
  | d + 1, a, cl, hs => by
    obtain ⟨a1', a2', a3', a4', a5'⟩ := hA
    rcases hs.2 with ⟨q0, rfl⟩ | ⟨q0, k, hk, q1, rfl⟩ | ⟨q0, o, a1, a2, c1, c2, ho, q2, q3, q4, h1, h2, rfl⟩
    · refine ⟨(13, YX13_of), by simp, q0, fun S1 hS1 => ?_⟩
      refine zM.go rfl rfl (Nat.le_of_ble_eq_true rfl) (ls := [some (.ref a), some (.ref qa)]) rfl ?_
      intro V hVl hVE hVd hVc hVs hVQ hVX
      refine sX13_of_0 _ _ _ _ _ ?_
      simp (disch := omega) only [oAld, oGI, oRI, q0, List.getElem?_cons_zero, List.getElem?_cons_succ, List.set_cons_zero, List.set_cons_succ, List.drop_succ_cons, List.drop_zero, List.take_succ_cons, List.take_zero, List.length_cons, List.length_nil, List.reverse_cons, List.reverse_nil, List.nil_append, List.cons_append, Option.toList_some, Option.toList_none, va_rf_s, true_and, and_true, true_implies, false_implies, not_true_eq_false, not_false_eq_true, Nat.reduceAdd, Nat.reduceLeDiff, Nat.le_add_left, Nat.zero_le, Nat.le_refl, znew, true_or, or_true, b01_t, b01_f, b01_ok, bool_ft, vp_b01, vp_b0, vp_b1, b01_eq0, b01_eq1, implies_true, nI_add, nI_clamp, zi_in, zi_le_t, zi_le_f, zi_lt_t, zi_lt_f, zi_eq_t, zi_eq_f, nI_leI, nI_ltI, nI_eq, z_in, pk_mul, zu_same, zu_rw, zu_ix, zi_ne0, zi_sub, zi_m1, Nat.add_sub_cancel, Nat.reduceMul, Nat.reduceSub]
      refine hVQ _ _ ⟨_, S1, rfl, rfl, ?_⟩
      show S1 a 0 = tval (some [S a 0]) ∧ S1 = S1
      rw [hS1 a hs.1]; exact ⟨rfl, rfl⟩
    · refine ⟨(14, YX14_of), by simp, q0, fun S1 hS1 => ?_⟩
      have q1' : S1 a 0 = nI k := by rw [hS1 a hs.1]; exact q1
      refine zM.go rfl rfl (Nat.le_of_ble_eq_true rfl) (ls := [some (.ref a), some (.ref qa)]) rfl ?_
      intro V hVl hVE hVd hVc hVs hVQ hVX
      refine sX14_of_0 _ _ _ _ _ ?_
      simp (disch := omega) only [oAld, oAld1, oGI, oGR, oRI, q0, a1', a2', a3', a4', q1', List.getElem?_cons_zero, List.getElem?_cons_succ, List.set_cons_zero, List.set_cons_succ, List.drop_succ_cons, List.drop_zero, List.take_succ_cons, List.take_zero, List.length_cons, List.length_nil, List.reverse_cons, List.reverse_nil, List.nil_append, List.cons_append, Option.toList_some, Option.toList_none, va_rf_s, true_and, and_true, true_implies, false_implies, not_true_eq_false, not_false_eq_true, Nat.reduceAdd, Nat.reduceLeDiff, Nat.le_add_left, Nat.zero_le, Nat.le_refl, znew, true_or, or_true, b01_t, b01_f, b01_ok, bool_ft, vp_b01, vp_b0, vp_b1, b01_eq0, b01_eq1, implies_true, nI_add, nI_clamp, zi_in, zi_le_t, zi_le_f, zi_lt_t, zi_lt_f, zi_eq_t, zi_eq_f, nI_leI, nI_ltI, nI_eq, z_in, pk_mul, zu_same, zu_rw, zu_ix, zi_ne0, zi_sub, zi_m1, Nat.add_sub_cancel, Nat.reduceMul, Nat.reduceSub]
      refine hVQ _ _ ⟨_, S1, rfl, rfl, ?_⟩
      show S1 qv k = tval (some [S1 qv (nI k).toNatClampNeg]) ∧ S1 = S1
      rw [nI_clamp (by omega)]; exact ⟨rfl, rfl⟩
    · refine ⟨(15, YX15_of), by simp, q0, fun S1 hS1 => ?_⟩
      obtain ⟨p1, hp1, t1, m1⟩ := zSum (qv := qv) ⟨a1', a2', a3', a4', a5'⟩ hq d a1 c1 h1
      obtain ⟨p2, hp2, t2, m2⟩ := zSum (qv := qv) ⟨a1', a2', a3', a4', a5'⟩ hq d a2 c2 h2
      have q2' : S1 a 0 = nI (opCh o) := by rw [hS1 a hs.1]; exact q2
      have hqa : a ≠ qa := fun e => hq (e ▸ hs.1)
      have hok2 : 2 ≤ opN o := by rcases ho with rfl | rfl | rfl | rfl <;> decide
      have hev := evO_op (v := S1 qv) h1.one h2.one hok2
      refine zM.go rfl rfl (Nat.le_of_ble_eq_true rfl) (ls := [some (.ref a), some (.ref qa), none, none]) rfl ?_
      intro V hVl hVE hVd hVc hVs hVQ hVX
      refine sX15_of_0 _ _ _ _ _ ?_
      simp (disch := omega) only [oAld, oCVs, oGR, q0, q3, List.getElem?_cons_zero, List.getElem?_cons_succ, List.set_cons_zero, List.set_cons_succ, List.drop_succ_cons, List.drop_zero, List.take_succ_cons, List.take_zero, List.length_cons, List.length_nil, List.reverse_cons, List.reverse_nil, List.nil_append, List.cons_append, Option.toList_some, Option.toList_none, va_rf_s, true_and, and_true, true_implies, false_implies, not_true_eq_false, not_false_eq_true, Nat.reduceAdd, Nat.reduceLeDiff, Nat.le_add_left, Nat.zero_le, Nat.le_refl, znew, true_or, or_true, b01_t, b01_f, b01_ok, bool_ft, vp_b01, vp_b0, vp_b1, b01_eq0, b01_eq1, implies_true, nI_add, nI_clamp, zi_in, zi_le_t, zi_le_f, zi_lt_t, zi_lt_f, zi_eq_t, zi_eq_f, nI_leI, nI_ltI, nI_eq, z_in, pk_mul, zu_same, zu_rw, zu_ix, zi_ne0, zi_sub, zi_m1, Nat.add_sub_cancel, Nat.reduceMul, Nat.reduceSub]
      refine ⟨p1, hp1, t1, ?_⟩
      subst hVl hVE
      refine zC.of0 (m1 S1 hS1) (by omega) (Nat.zero_le _) (Nat.zero_le _) ?_
      rintro _ _ ⟨x, S2, rfl, rfl, hx⟩
      have hS2 : (S2 = S1 ∨ S2 = zu S1 qa 1 (nI 1)) := by
        unfold sumR at hx
        split at hx
        · exact Or.inl hx.2
        · exact Or.inr hx
      have k2 : ∀ b, ok b → S2 b = S b := by
        intro b hb
        have : b ≠ qa := fun e => hq (e ▸ hb)
        rcases hS2 with rfl | rfl
        · exact hS1 b hb
        · rw [zu_rw _ _ this]; exact hS1 b hb
      have v2 : S2 qv = S1 qv := by
        rcases hS2 with rfl | rfl
        · rfl
        · rw [zu_rw _ _ (Ne.symm a5')]
      refine sX15_of_8 _ _ _ _ _ ?_
      simp (disch := omega) only [oAld, oCVs, oGR, oIst, q0, q4, List.getElem?_cons_zero, List.getElem?_cons_succ, List.set_cons_zero, List.set_cons_succ, List.drop_succ_cons, List.drop_zero, List.take_succ_cons, List.take_zero, List.length_cons, List.length_nil, List.reverse_cons, List.reverse_nil, List.nil_append, List.cons_append, Option.toList_some, Option.toList_none, va_rf_s, true_and, and_true, true_implies, false_implies, not_true_eq_false, not_false_eq_true, Nat.reduceAdd, Nat.reduceLeDiff, Nat.le_add_left, Nat.zero_le, Nat.le_refl, znew, true_or, or_true, b01_t, b01_f, b01_ok, bool_ft, vp_b01, vp_b0, vp_b1, b01_eq0, b01_eq1, implies_true, nI_add, nI_clamp, zi_in, zi_le_t, zi_le_f, zi_lt_t, zi_lt_f, zi_eq_t, zi_eq_f, nI_leI, nI_ltI, nI_eq, z_in, pk_mul, zu_same, zu_rw, zu_ix, zi_ne0, zi_sub, zi_m1, Nat.add_sub_cancel, Nat.reduceMul, Nat.reduceSub]
      refine ⟨p2, hp2, t2, ?_⟩
      refine zC.of0 (m2 S2 k2) (by omega) (Nat.zero_le _) (Nat.zero_le _) ?_
      rintro _ _ ⟨y, S3, rfl, rfl, hy⟩
      rw [v2] at hy
      have hS3 : S3 = S2 ∨ S3 = zu S2 qa 1 (nI 1) := by
        unfold sumR at hy
        split at hy
        · exact Or.inl hy.2
        · exact Or.inr hy
      have e3 : S3 a 0 = nI (opCh o) := by
        rcases hS3 with rfl | rfl
        · rcases hS2 with rfl | rfl
          · exact q2'
          · rw [zu_rw _ _ hqa]; exact q2'
        · rw [zu_rw _ _ hqa]
          rcases hS2 with rfl | rfl
          · exact q2'
          · rw [zu_rw _ _ hqa]; exact q2'
      have fin : ∀ w S', (∀ x' y', evO (S1 qv) c1 = some x' → evO (S1 qv) c2 = some y' → sumR S3 S' qa (if opN o = 5 ∧ y' = nI 0 then none else some (if opN o = 2 then x' + y' else if opN o = 3 then x' - y' else if opN o = 4 then x' * y' else x' / y')) w) → ((evO (S1 qv) c1 = none ∨ evO (S1 qv) c2 = none) → S' = zu S1 qa 1 (nI 1)) → V.2.2.2.2.2.1 (some (.int w)) (z, h, S', L) := by
        intro w S' hg hb
        refine hVQ _ _ ⟨w, S', rfl, rfl, ?_⟩
        rw [hev]
        cases e1 : evO (S1 qv) c1 with
        | none => exact hb (Or.inl e1)
        | some x' =>
          cases e2 : evO (S1 qv) c2 with
          | none => exact hb (Or.inr e2)
          | some y' =>
            have := hg x' y' e1 e2
            rw [e1] at hx
            rw [e2] at hy
            have e9 : S3 = S1 := hy.2.trans hx.2
            rw [e9] at this
            exact this
      have broken : (evO (S1 qv) c1 = none ∨ evO (S1 qv) c2 = none) → S3 = zu S1 qa 1 (nI 1) := by
        intro hb
        rcases hb with hb | hb
        · rw [hb] at hx
          have hx' : S2 = zu S1 qa 1 (nI 1) := hx
          rcases hS3 with rfl | rfl
          · exact hx'
          · rw [hx', zu_zu]
        · rw [hb] at hy
          have hy' : S3 = zu S2 qa 1 (nI 1) := hy
          rw [hy']
          rcases hS2 with rfl | rfl
          · rfl
          · rw [zu_zu]
      have vals : ∀ x' y', evO (S1 qv) c1 = some x' → evO (S1 qv) c2 = some y' → x = x' ∧ y = y' := by
        intro x' y' e1 e2
        rw [e1] at hx
        rw [e2] at hy
        exact ⟨hx.1, hy.1⟩
      refine sX15_of_17 _ _ _ _ _ ?_
      simp (disch := omega) only [oAld, oGI, oIst, q0, e3, List.getElem?_cons_zero, List.getElem?_cons_succ, List.set_cons_zero, List.set_cons_succ, List.drop_succ_cons, List.drop_zero, List.take_succ_cons, List.take_zero, List.length_cons, List.length_nil, List.reverse_cons, List.reverse_nil, List.nil_append, List.cons_append, Option.toList_some, Option.toList_none, va_rf_s, true_and, and_true, true_implies, false_implies, not_true_eq_false, not_false_eq_true, Nat.reduceAdd, Nat.reduceLeDiff, Nat.le_add_left, Nat.zero_le, Nat.le_refl, znew, true_or, or_true, b01_t, b01_f, b01_ok, bool_ft, vp_b01, vp_b0, vp_b1, b01_eq0, b01_eq1, implies_true, nI_add, nI_clamp, zi_in, zi_le_t, zi_le_f, zi_lt_t, zi_lt_f, zi_eq_t, zi_eq_f, nI_leI, nI_ltI, nI_eq, z_in, pk_mul, zu_same, zu_rw, zu_ix, zi_ne0, zi_sub, zi_m1, Nat.add_sub_cancel, Nat.reduceMul, Nat.reduceSub]
      rcases ho with rfl | rfl | rfl | rfl
      · refine zsw42 (fun e => absurd e (by decide)) (fun _ => ?_) (fun e => absurd e (by decide)) (fun e => absurd e (by decide)) (fun hd => absurd rfl (hd 43 (by omega) (by omega)))
        refine sX15_of_52 _ _ _ _ _ ?_
        simp (disch := omega) only [oBin, oIld, oRI, List.getElem?_cons_zero, List.getElem?_cons_succ, List.set_cons_zero, List.set_cons_succ, List.drop_succ_cons, List.drop_zero, List.take_succ_cons, List.take_zero, List.length_cons, List.length_nil, List.reverse_cons, List.reverse_nil, List.nil_append, List.cons_append, Option.toList_some, Option.toList_none, va_rf_s, true_and, and_true, true_implies, false_implies, not_true_eq_false, not_false_eq_true, Nat.reduceAdd, Nat.reduceLeDiff, Nat.le_add_left, Nat.zero_le, Nat.le_refl, znew, true_or, or_true, b01_t, b01_f, b01_ok, bool_ft, vp_b01, vp_b0, vp_b1, b01_eq0, b01_eq1, implies_true, nI_add, nI_clamp, zi_in, zi_le_t, zi_le_f, zi_lt_t, zi_lt_f, zi_eq_t, zi_eq_f, nI_leI, nI_ltI, nI_eq, z_in, pk_mul, zu_same, zu_rw, zu_ix, zi_ne0, zi_sub, zi_m1, Nat.add_sub_cancel, Nat.reduceMul, Nat.reduceSub]
        refine fin _ _ (fun x' y' e1 e2 => ?_) broken
        obtain ⟨rfl, rfl⟩ := vals x' y' e1 e2
        rw [if_neg (fun q => absurd q.1 (by decide))]; exact ⟨rfl, rfl⟩
      · refine zsw42 (fun e => absurd e (by decide)) (fun e => absurd e (by decide)) (fun e => absurd e (by decide)) (fun _ => ?_) (fun hd => absurd rfl (hd 45 (by omega) (by omega)))
        refine sX15_of_56 _ _ _ _ _ ?_
        simp (disch := omega) only [oBin, oIld, oRI, List.getElem?_cons_zero, List.getElem?_cons_succ, List.set_cons_zero, List.set_cons_succ, List.drop_succ_cons, List.drop_zero, List.take_succ_cons, List.take_zero, List.length_cons, List.length_nil, List.reverse_cons, List.reverse_nil, List.nil_append, List.cons_append, Option.toList_some, Option.toList_none, va_rf_s, true_and, and_true, true_implies, false_implies, not_true_eq_false, not_false_eq_true, Nat.reduceAdd, Nat.reduceLeDiff, Nat.le_add_left, Nat.zero_le, Nat.le_refl, znew, true_or, or_true, b01_t, b01_f, b01_ok, bool_ft, vp_b01, vp_b0, vp_b1, b01_eq0, b01_eq1, implies_true, nI_add, nI_clamp, zi_in, zi_le_t, zi_le_f, zi_lt_t, zi_lt_f, zi_eq_t, zi_eq_f, nI_leI, nI_ltI, nI_eq, z_in, pk_mul, zu_same, zu_rw, zu_ix, zi_ne0, zi_sub, zi_m1, Nat.add_sub_cancel, Nat.reduceMul, Nat.reduceSub]
        refine fin _ _ (fun x' y' e1 e2 => ?_) broken
        obtain ⟨rfl, rfl⟩ := vals x' y' e1 e2
        rw [if_neg (fun q => absurd q.1 (by decide))]; exact ⟨rfl, rfl⟩
      · refine zsw42 (fun _ => ?_) (fun e => absurd e (by decide)) (fun e => absurd e (by decide)) (fun e => absurd e (by decide)) (fun hd => absurd rfl (hd 42 (by omega) (by omega)))
        refine sX15_of_60 _ _ _ _ _ ?_
        simp (disch := omega) only [oBin, oIld, oRI, List.getElem?_cons_zero, List.getElem?_cons_succ, List.set_cons_zero, List.set_cons_succ, List.drop_succ_cons, List.drop_zero, List.take_succ_cons, List.take_zero, List.length_cons, List.length_nil, List.reverse_cons, List.reverse_nil, List.nil_append, List.cons_append, Option.toList_some, Option.toList_none, va_rf_s, true_and, and_true, true_implies, false_implies, not_true_eq_false, not_false_eq_true, Nat.reduceAdd, Nat.reduceLeDiff, Nat.le_add_left, Nat.zero_le, Nat.le_refl, znew, true_or, or_true, b01_t, b01_f, b01_ok, bool_ft, vp_b01, vp_b0, vp_b1, b01_eq0, b01_eq1, implies_true, nI_add, nI_clamp, zi_in, zi_le_t, zi_le_f, zi_lt_t, zi_lt_f, zi_eq_t, zi_eq_f, nI_leI, nI_ltI, nI_eq, z_in, pk_mul, zu_same, zu_rw, zu_ix, zi_ne0, zi_sub, zi_m1, Nat.add_sub_cancel, Nat.reduceMul, Nat.reduceSub]
        refine fin _ _ (fun x' y' e1 e2 => ?_) broken
        obtain ⟨rfl, rfl⟩ := vals x' y' e1 e2
        rw [if_neg (fun q => absurd q.1 (by decide))]; exact ⟨rfl, rfl⟩
      · refine zsw42 (fun e => absurd e (by decide)) (fun e => absurd e (by decide)) (fun e => absurd e (by decide)) (fun e => absurd e (by decide)) (fun _ => ?_)
        by_cases hy0 : y = nI 0
        · have hy0' : (y = nI 0) = True := eq_true hy0
          refine sX15_of_64 _ _ _ _ _ ?_
          simp (disch := omega) only [oAld, oDiv, oIf, oIld, oPI, oPush, oRI, hy0', a1', List.getElem?_cons_zero, List.getElem?_cons_succ, List.set_cons_zero, List.set_cons_succ, List.drop_succ_cons, List.drop_zero, List.take_succ_cons, List.take_zero, List.length_cons, List.length_nil, List.reverse_cons, List.reverse_nil, List.nil_append, List.cons_append, Option.toList_some, Option.toList_none, va_rf_s, true_and, and_true, true_implies, false_implies, not_true_eq_false, not_false_eq_true, Nat.reduceAdd, Nat.reduceLeDiff, Nat.le_add_left, Nat.zero_le, Nat.le_refl, znew, true_or, or_true, b01_t, b01_f, b01_ok, bool_ft, vp_b01, vp_b0, vp_b1, b01_eq0, b01_eq1, implies_true, nI_add, nI_clamp, zi_in, zi_le_t, zi_le_f, zi_lt_t, zi_lt_f, zi_eq_t, zi_eq_f, nI_leI, nI_ltI, nI_eq, z_in, pk_mul, zu_same, zu_rw, zu_ix, zi_ne0, zi_sub, zi_m1, Nat.add_sub_cancel, Nat.reduceMul, Nat.reduceSub]
          refine fin _ _ (fun x' y' e1 e2 => ?_) (fun hb => by rw [broken hb, zu_zu])
          obtain ⟨rfl, rfl⟩ := vals x' y' e1 e2
          rw [if_pos ⟨rfl, hy0⟩]; rfl
        · have hy0' : (y = nI 0) = False := eq_false hy0
          refine sX15_of_64 _ _ _ _ _ ?_
          simp (disch := omega) only [oAld, oDiv, oIf, oIld, oPI, oPush, oRI, hy0', List.getElem?_cons_zero, List.getElem?_cons_succ, List.set_cons_zero, List.set_cons_succ, List.drop_succ_cons, List.drop_zero, List.take_succ_cons, List.take_zero, List.length_cons, List.length_nil, List.reverse_cons, List.reverse_nil, List.nil_append, List.cons_append, Option.toList_some, Option.toList_none, va_rf_s, true_and, and_true, true_implies, false_implies, not_true_eq_false, not_false_eq_true, Nat.reduceAdd, Nat.reduceLeDiff, Nat.le_add_left, Nat.zero_le, Nat.le_refl, znew, true_or, or_true, b01_t, b01_f, b01_ok, bool_ft, vp_b01, vp_b0, vp_b1, b01_eq0, b01_eq1, implies_true, nI_add, nI_clamp, zi_in, zi_le_t, zi_le_f, zi_lt_t, zi_lt_f, zi_eq_t, zi_eq_f, nI_leI, nI_ltI, nI_eq, z_in, pk_mul, zu_same, zu_rw, zu_ix, zi_ne0, zi_sub, zi_m1, Nat.add_sub_cancel, Nat.reduceMul, Nat.reduceSub]
          refine fin _ _ (fun x' y' e1 e2 => ?_) broken
          obtain ⟨rfl, rfl⟩ := vals x' y' e1 e2
          rw [if_neg (fun q => hy0 q.2)]; exact ⟨rfl, rfl⟩
end CB
/-! laws -/
def b30 : zBr3 := (false, [], [], [])
def isLw (h : Nat → Option zSh) (S : Nat → Nat → Int32) (ok : Nat → Prop) (D a : Nat) (law : List zBr3) : Prop := ok a ∧ zt h a = 31 ∧ ∃ (bs : List zBr3) (c : zCd) (e1 e2 e3 : Nat), law = bs ++ [(false, [], [], c)] ∧ bs.length ≤ 4 ∧ (∀ q ∈ bs, q.1 = true) ∧ S a 3 = nI bs.length ∧ (zr h a 0 = some e1 ∧ zr h a 1 = some e2 ∧ zr h a 2 = some e3) ∧ ((ok e1 ∧ zt h e1 = 8 ∧ zn h e1 = 4) ∧ (ok e2 ∧ zt h e2 = 8 ∧ zn h e2 = 4) ∧ (ok e3 ∧ zt h e3 = 8 ∧ zn h e3 = 5)) ∧
  (∀ i, i < bs.length → (∃ x, zr h e1 i = some x ∧ isSum h S ok D x (bs.getD i b30).2.1) ∧ (∃ x, zr h e2 i = some x ∧ isSum h S ok D x (bs.getD i b30).2.2.1) ∧ ∃ x, zr h e3 i = some x ∧ isSum h S ok D x (bs.getD i b30).2.2.2) ∧ ∃ x, zr h e3 bs.length = some x ∧ isSum h S ok D x c
theorem isLw.fr {h h' : Nat → Option zSh} {S S' : Nat → Nat → Int32} {ok ok' : Nat → Prop} {D a : Nat} {law : List zBr3} (hS : ∀ a, ok a → S' a = S a) (hh : ∀ a, ok a → h' a = h a) (hok : ∀ a, ok a → ok' a) (hl : isLw h S ok D a law) : isLw h' S' ok' D a law := by
  obtain ⟨h1, h2, bs, c, e1, e2, e3, h3, h4, h5, h6, h7, ⟨⟨g1, g2, g3⟩, ⟨g4, g5, g6⟩, ⟨g7, g8, g9⟩⟩, h9, x, h10, h11⟩ := hl
  have ft : ∀ b, ok b → zt h' b = zt h b ∧ zn h' b = zn h b ∧ zr h' b = zr h b := fun b hb => by unfold zt zn zr; rw [hh b hb]; exact ⟨rfl, rfl, rfl⟩
  refine ⟨hok a h1, by rw [(ft a h1).1]; exact h2, bs, c, e1, e2, e3, h3, h4, h5, by rw [hS a h1]; exact h6, by rw [(ft a h1).2.2]; exact h7, ⟨⟨hok _ g1, by rw [(ft _ g1).1]; exact g2, by rw [(ft _ g1).2.1]; exact g3⟩, ⟨hok _ g4, by rw [(ft _ g4).1]; exact g5, by rw [(ft _ g4).2.1]; exact g6⟩, ⟨hok _ g7, by rw [(ft _ g7).1]; exact g8, by rw [(ft _ g7).2.1]; exact g9⟩⟩, fun i hi => ?_, x, by rw [(ft _ g7).2.2]; exact h10, h11.fr hS hh hok⟩
  obtain ⟨⟨x1, y1, z1⟩, ⟨x2, y2, z2⟩, ⟨x3, y3, z3⟩⟩ := h9 i hi
  exact ⟨⟨x1, by rw [(ft _ g1).2.2]; exact y1, z1.fr hS hh hok⟩, ⟨x2, by rw [(ft _ g4).2.2]; exact y2, z2.fr hS hh hok⟩, ⟨x3, by rw [(ft _ g7).2.2]; exact y3, z3.fr hS hh hok⟩⟩
theorem drop_getD {α : Type} {l : List α} {i : Nat} {d : α} (h : i < l.length) : l.drop i = l.getD i d :: l.drop (i + 1) := by
  rw [List.drop_eq_getElem_cons h, List.getD_eq_getElem?_getD, List.getElem?_eq_getElem h]; rfl
theorem evO_tval {v : Nat → Int32} {c : zCd} {x : Int32} (h : evO v c = some x) : ∃ u, tev v c [] = some u ∧ tval (some u) = x := by
  unfold evO at h
  split at h
  · cases h
  · rename_i l hl; cases h; exact ⟨l, hl, rfl⟩
theorem lawEv_bad {v : Nat → Int32} {q : zBr3} {qs : List zBr3} (hq : q.1 = true) (h : evO v q.2.1 = none ∨ evO v q.2.2.1 = none) : lawEv v (q :: qs) = nI 0 := by
  rw [lawEv, if_pos hq]
  rcases h with h | h
  · rw [evO_none h]
  · rw [evO_none h]
    cases tev v q.2.1 [] <;> rfl
theorem lawEv_go {v : Nat → Int32} {q : zBr3} {qs : List zBr3} {x y : Int32} (hq : q.1 = true) (h1 : evO v q.2.1 = some x) (h2 : evO v q.2.2.1 = some y) : lawEv v (q :: qs) = if x < y then tval (tev v q.2.2.2 []) else lawEv v qs := by
  obtain ⟨u1, e1, rfl⟩ := evO_tval h1
  obtain ⟨u2, e2, rfl⟩ := evO_tval h2
  rw [lawEv, if_pos hq, e1, e2]
section CB2
variable {l : Launch} {E : zE} {z : Nat} {h : Nat → Option zSh} {S : Nat → Nat → Int32} {L : Nat → Nat → Int64}
theorem zX11_of {ok : Nat → Prop} {qa qv D a : Nat} {law : List zBr3} (hA : isAk h qa qv) (hq : ¬ ok qa) (hL : isLw h S ok D a law) :
    zM l E (D + 1) YX11_of [.ref a, .ref qa] (z, h, S, L) 0 0 (fun r X => ∃ n', r = some (.int (maxF (nI 0) (lawEv (S qv) law))) ∧ X = (z, h, zu S qa 1 n', L)) (fun _ _ => False) := by
  obtain ⟨h1, h2, bs, c, e1, e2, e3, rfl, h4, h5, h6, ⟨r1, r2, r3⟩, ⟨⟨-, g2, g3⟩, ⟨-, g5, g6⟩, ⟨-, g8, g9⟩⟩, h9, xl, h10, h11⟩ := hL
  obtain ⟨a1, a2, a3, a4, a5⟩ := id hA
  have hane : a ≠ qa := fun e => hq (e ▸ h1)
  have okne : ∀ b, ok b → b ≠ qa := fun b hb e => hq (e ▸ hb)
  obtain ⟨R, hR⟩ : ∃ R, R = lawEv (S qv) (bs ++ [(false, [], [], c)]) := ⟨_, rfl⟩
  rw [← hR]
  refine zM.go rfl rfl (Nat.le_of_ble_eq_true rfl) (ls := [some (.ref a), some (.ref qa), none, none]) rfl ?_
  intro V hVl hVE hVd hVc hVs hVQ hVX
  subst hVl hVE
  -- the end
  have fin : ∀ (k : Nat) (cc : zCd) (x : Nat) (n0 : Int32) (x3 : Option Value), (n0 = nI 0 ∧ R = tval (tev (S qv) cc [])) ∨ (n0 = nI 1 ∧ R = nI 0) → isSum h S ok D x cc → ∃ q ∈ tbS, zt h x = 20 + q.1 ∧ zC V q.2 [.ref x, .ref qa] (z, h, zu S qa 1 n0, L) 0 0 (fun v X' k' n' => zW V YX11_of 54 [some (.ref a), some (.ref qa), some (.int (nI k)), x3] (v.toList ++ []) X' k' n') (zOut V [some (.ref a), some (.ref qa), some (.int (nI k)), x3]) := by
    intro k cc x n0 x3 hcase hs
    obtain ⟨p1, hp1, t1, m1⟩ := zSum (l := V.1) (E := V.2.1) (z := z) (L := L) hA hq D x cc hs
    refine ⟨p1, hp1, t1, ?_⟩
    have ev : evO (zu S qa 1 n0 qv) cc = evO (S qv) cc := by rw [zu_rw _ _ (Ne.symm a5)]
    refine zC.of0 (m1 (zu S qa 1 n0) (fun b hb => zu_rw _ _ (okne b hb))) (by omega) (Nat.zero_le _) (Nat.zero_le _) ?_
    rintro _ _ ⟨w, S2, rfl, rfl, hw⟩
    rw [ev] at hw
    cases ho : evO (S qv) cc with
    | none =>
      rw [ho] at hw
      have hw' : S2 = zu (zu S qa 1 n0) qa 1 (nI 1) := hw
      rw [zu_zu] at hw'
      subst hw'
      refine sX11_of_54 (by omega) _ _ _ _ _ ?_
      simp (disch := omega) only [oAld, oGI, oIf, oIld, oIst, oM2, oNop, oPush, oRI, a1, List.getElem?_cons_zero, List.getElem?_cons_succ, List.set_cons_zero, List.set_cons_succ, List.drop_succ_cons, List.drop_zero, List.take_succ_cons, List.take_zero, List.length_cons, List.length_nil, List.reverse_cons, List.reverse_nil, List.nil_append, List.cons_append, Option.toList_some, Option.toList_none, va_rf_s, true_and, and_true, true_implies, false_implies, not_true_eq_false, not_false_eq_true, Nat.reduceAdd, Nat.reduceLeDiff, Nat.le_add_left, Nat.zero_le, Nat.le_refl, znew, true_or, or_true, b01_t, b01_f, b01_ok, bool_ft, vp_b01, vp_b0, vp_b1, b01_eq0, b01_eq1, implies_true, nI_add, nI_clamp, zi_in, zi_le_t, zi_le_f, zi_lt_t, zi_lt_f, zi_eq_t, zi_eq_f, nI_leI, nI_ltI, nI_eq, z_in, pk_mul, zu_same, zu_rw, zu_ix, zi_ne0, zi_sub, zi_m1, Nat.add_sub_cancel, Nat.reduceMul, Nat.reduceSub]
      refine hVQ _ _ ⟨nI 1, ?_, rfl⟩
      have : R = nI 0 := by
        rcases hcase with ⟨-, e⟩ | ⟨-, e⟩
        · rw [e, evO_none ho]; rfl
        · exact e
      rw [this]; rfl
    | some y =>
      rw [ho] at hw
      obtain ⟨rfl, rfl⟩ : w = y ∧ S2 = zu S qa 1 n0 := hw
      rcases hcase with ⟨rfl, e⟩ | ⟨rfl, e⟩
      · refine sX11_of_54 (by omega) _ _ _ _ _ ?_
        simp (disch := omega) only [oAld, oGI, oIf, oIld, oIst, oM2, oNop, oPush, oRI, a1, List.getElem?_cons_zero, List.getElem?_cons_succ, List.set_cons_zero, List.set_cons_succ, List.drop_succ_cons, List.drop_zero, List.take_succ_cons, List.take_zero, List.length_cons, List.length_nil, List.reverse_cons, List.reverse_nil, List.nil_append, List.cons_append, Option.toList_some, Option.toList_none, va_rf_s, true_and, and_true, true_implies, false_implies, not_true_eq_false, not_false_eq_true, Nat.reduceAdd, Nat.reduceLeDiff, Nat.le_add_left, Nat.zero_le, Nat.le_refl, znew, true_or, or_true, b01_t, b01_f, b01_ok, bool_ft, vp_b01, vp_b0, vp_b1, b01_eq0, b01_eq1, implies_true, nI_add, nI_clamp, zi_in, zi_le_t, zi_le_f, zi_lt_t, zi_lt_f, zi_eq_t, zi_eq_f, nI_leI, nI_ltI, nI_eq, z_in, pk_mul, zu_same, zu_rw, zu_ix, zi_ne0, zi_sub, zi_m1, Nat.add_sub_cancel, Nat.reduceMul, Nat.reduceSub]
        obtain ⟨u, eu, hu⟩ := evO_tval ho
        refine hVQ _ _ ⟨nI 0, ?_, rfl⟩
        rw [e, eu, hu]
      · refine sX11_of_54 (by omega) _ _ _ _ _ ?_
        simp (disch := omega) only [oAld, oGI, oIf, oIld, oIst, oM2, oNop, oPush, oRI, a1, List.getElem?_cons_zero, List.getElem?_cons_succ, List.set_cons_zero, List.set_cons_succ, List.drop_succ_cons, List.drop_zero, List.take_succ_cons, List.take_zero, List.length_cons, List.length_nil, List.reverse_cons, List.reverse_nil, List.nil_append, List.cons_append, Option.toList_some, Option.toList_none, va_rf_s, true_and, and_true, true_implies, false_implies, not_true_eq_false, not_false_eq_true, Nat.reduceAdd, Nat.reduceLeDiff, Nat.le_add_left, Nat.zero_le, Nat.le_refl, znew, true_or, or_true, b01_t, b01_f, b01_ok, bool_ft, vp_b01, vp_b0, vp_b1, b01_eq0, b01_eq1, implies_true, nI_add, nI_clamp, zi_in, zi_le_t, zi_le_f, zi_lt_t, zi_lt_f, zi_eq_t, zi_eq_f, nI_leI, nI_ltI, nI_eq, z_in, pk_mul, zu_same, zu_rw, zu_ix, zi_ne0, zi_sub, zi_m1, Nat.add_sub_cancel, Nat.reduceMul, Nat.reduceSub]
        refine hVQ _ _ ⟨nI 1, ?_, rfl⟩
        rw [e]; rfl
  have loop : ∀ k, k ≤ bs.length → ∀ (n0 : Int32) (x3 : Option Value), (n0 = nI 0 ∧ R = lawEv (S qv) (bs.drop k ++ [(false, [], [], c)])) ∨ (n0 = nI 1 ∧ R = nI 0) → zW V YX11_of 7 [some (.ref a), some (.ref qa), some (.int (nI k)), x3] [] (z, h, zu S qa 1 n0, L) 0 0 := by
    refine z_down ?_ (fun k hk ih => ?_)
    · intro n0 x3 hcase
      have f3 : zu S qa 1 n0 a 3 = nI bs.length := by rw [zu_rw _ _ hane]; exact h6
      refine sX11_of_7 _ _ _ _ _ ?_
      simp (disch := omega) only [oAld, oAld9, oCVs, oGI, oGR, oIfc, oIld, h2, f3, r3, g8, g9, h10, List.getElem?_cons_zero, List.getElem?_cons_succ, List.set_cons_zero, List.set_cons_succ, List.drop_succ_cons, List.drop_zero, List.take_succ_cons, List.take_zero, List.length_cons, List.length_nil, List.reverse_cons, List.reverse_nil, List.nil_append, List.cons_append, Option.toList_some, Option.toList_none, va_rf_s, true_and, and_true, true_implies, false_implies, not_true_eq_false, not_false_eq_true, Nat.reduceAdd, Nat.reduceLeDiff, Nat.le_add_left, Nat.zero_le, Nat.le_refl, znew, true_or, or_true, b01_t, b01_f, b01_ok, bool_ft, vp_b01, vp_b0, vp_b1, b01_eq0, b01_eq1, implies_true, nI_add, nI_clamp, zi_in, zi_le_t, zi_le_f, zi_lt_t, zi_lt_f, zi_eq_t, zi_eq_f, nI_leI, nI_ltI, nI_eq, z_in, pk_mul, zu_same, zu_rw, zu_ix, zi_ne0, zi_sub, zi_m1, Nat.add_sub_cancel, Nat.reduceMul, Nat.reduceSub]
      refine fin bs.length c xl n0 x3 ?_ h11
      rcases hcase with ⟨e0, e⟩ | q
      · refine Or.inl ⟨e0, ?_⟩
        rw [e, List.drop_length, List.nil_append, lawEv, if_neg (by simp)]
      · exact Or.inr q
    · intro n0 x3 hcase
      obtain ⟨⟨y1, z1, w1⟩, ⟨y2, z2, w2⟩, ⟨y3, z3, w3⟩⟩ := h9 k hk
      have f3 : zu S qa 1 n0 a 3 = nI bs.length := by rw [zu_rw _ _ hane]; exact h6
      obtain ⟨p1, hp1, t1, m1⟩ := zSum (l := V.1) (E := V.2.1) (z := z) (L := L) hA hq D y1 _ w1
      obtain ⟨p2, hp2, t2, m2⟩ := zSum (l := V.1) (E := V.2.1) (z := z) (L := L) hA hq D y2 _ w2
      generalize hq3 : bs.getD k b30 = q3 at *
      have hq3m : q3.1 = true := h5 q3 (by rw [← hq3, List.getD_eq_getElem?_getD, List.getElem?_eq_getElem hk]; exact List.getElem_mem hk)
      have hd3 : bs.drop k ++ [(false, [], [], c)] = q3 :: (bs.drop (k + 1) ++ [(false, [], [], c)]) := by rw [drop_getD hk (d := b30), hq3]; rfl
      refine sX11_of_7 _ _ _ _ _ ?_
      simp (disch := omega) only [oAld, oAld9, oCVs, oGI, oGR, oIfc, oIld, h2, f3, r1, g2, g3, z1, List.getElem?_cons_zero, List.getElem?_cons_succ, List.set_cons_zero, List.set_cons_succ, List.drop_succ_cons, List.drop_zero, List.take_succ_cons, List.take_zero, List.length_cons, List.length_nil, List.reverse_cons, List.reverse_nil, List.nil_append, List.cons_append, Option.toList_some, Option.toList_none, va_rf_s, true_and, and_true, true_implies, false_implies, not_true_eq_false, not_false_eq_true, Nat.reduceAdd, Nat.reduceLeDiff, Nat.le_add_left, Nat.zero_le, Nat.le_refl, znew, true_or, or_true, b01_t, b01_f, b01_ok, bool_ft, vp_b01, vp_b0, vp_b1, b01_eq0, b01_eq1, implies_true, nI_add, nI_clamp, zi_in, zi_le_t, zi_le_f, zi_lt_t, zi_lt_f, zi_eq_t, zi_eq_f, nI_leI, nI_ltI, nI_eq, z_in, pk_mul, zu_same, zu_rw, zu_ix, zi_ne0, zi_sub, zi_m1, Nat.add_sub_cancel, Nat.reduceMul, Nat.reduceSub]
      refine ⟨p1, hp1, t1, ?_⟩
      refine zC.of0 (m1 (zu S qa 1 n0) (fun b hb => zu_rw _ _ (okne b hb))) (by omega) (Nat.zero_le _) (Nat.zero_le _) ?_
      rintro _ _ ⟨x, S2, rfl, rfl, hx⟩
      rw [zu_rw _ _ (Ne.symm a5)] at hx
      obtain ⟨n1, hn1, hS2⟩ : ∃ n1, ((n1 = n0 ∧ evO (S qv) q3.2.1 = some x) ∨ (n1 = nI 1 ∧ evO (S qv) q3.2.1 = none)) ∧ S2 = zu S qa 1 n1 := by
        unfold sumR at hx
        split at hx
        · rename_i y hy; exact ⟨n0, Or.inl ⟨rfl, by rw [hy, hx.1]⟩, hx.2⟩
        · rename_i hy; exact ⟨nI 1, Or.inr ⟨rfl, hy⟩, by rw [hx, zu_zu]⟩
      subst hS2
      refine sX11_of_25 _ _ _ _ _ ?_
      simp (disch := omega) only [oAld, oAld9, oCVs, oGR, oIld, h2, r2, g5, g6, z2, List.getElem?_cons_zero, List.getElem?_cons_succ, List.set_cons_zero, List.set_cons_succ, List.drop_succ_cons, List.drop_zero, List.take_succ_cons, List.take_zero, List.length_cons, List.length_nil, List.reverse_cons, List.reverse_nil, List.nil_append, List.cons_append, Option.toList_some, Option.toList_none, va_rf_s, true_and, and_true, true_implies, false_implies, not_true_eq_false, not_false_eq_true, Nat.reduceAdd, Nat.reduceLeDiff, Nat.le_add_left, Nat.zero_le, Nat.le_refl, znew, true_or, or_true, b01_t, b01_f, b01_ok, bool_ft, vp_b01, vp_b0, vp_b1, b01_eq0, b01_eq1, implies_true, nI_add, nI_clamp, zi_in, zi_le_t, zi_le_f, zi_lt_t, zi_lt_f, zi_eq_t, zi_eq_f, nI_leI, nI_ltI, nI_eq, z_in, pk_mul, zu_same, zu_rw, zu_ix, zi_ne0, zi_sub, zi_m1, Nat.add_sub_cancel, Nat.reduceMul, Nat.reduceSub]
      refine ⟨p2, hp2, t2, ?_⟩
      refine zC.of0 (m2 (zu S qa 1 n1) (fun b hb => zu_rw _ _ (okne b hb))) (by omega) (Nat.zero_le _) (Nat.zero_le _) ?_
      rintro _ _ ⟨y, S3, rfl, rfl, hy⟩
      rw [zu_rw _ _ (Ne.symm a5)] at hy
      obtain ⟨n2, hn2, hS3⟩ : ∃ n2, ((n2 = n1 ∧ evO (S qv) q3.2.2.1 = some y) ∨ (n2 = nI 1 ∧ evO (S qv) q3.2.2.1 = none)) ∧ S3 = zu S qa 1 n2 := by
        unfold sumR at hy
        split at hy
        · rename_i w hw; exact ⟨n1, Or.inl ⟨rfl, by rw [hw, hy.1]⟩, hy.2⟩
        · rename_i hw; exact ⟨nI 1, Or.inr ⟨rfl, hw⟩, by rw [hy, zu_zu]⟩
      subst hS3
      have hst : (n2 = nI 0 ∧ R = if x < y then tval (tev (S qv) q3.2.2.2 []) else lawEv (S qv) (bs.drop (k + 1) ++ [(false, [], [], c)])) ∨ (n2 = nI 1 ∧ R = nI 0) := by
        rcases hcase with ⟨e0, e⟩ | ⟨e0, e⟩
        · rw [hd3] at e
          rcases hn1 with ⟨i1, j1⟩ | ⟨i1, j1⟩
          · rcases hn2 with ⟨i2, j2⟩ | ⟨i2, j2⟩
            · exact Or.inl ⟨by rw [i2, i1, e0], by rw [e, lawEv_go hq3m j1 j2]⟩
            · exact Or.inr ⟨i2, by rw [e, lawEv_bad hq3m (Or.inr j2)]⟩
          · refine Or.inr ⟨?_, by rw [e, lawEv_bad hq3m (Or.inl j1)]⟩
            rcases hn2 with ⟨i2, j2⟩ | ⟨i2, j2⟩
            · rw [i2, i1]
            · exact i2
        · refine Or.inr ⟨?_, e⟩
          rcases hn2 with ⟨i2, j2⟩ | ⟨i2, j2⟩
          · rcases hn1 with ⟨i1, j1⟩ | ⟨i1, j1⟩
            · rw [i2, i1, e0]
            · rw [i2, i1]
          · exact i2
      refine sX11_of_35 _ _ _ _ _ ?_
      simp (disch := omega) only [oAld, oAld9, oCVs, oGR, oIfc, oIld, oInc, oNop, h2, r3, g8, g9, z3, List.getElem?_cons_zero, List.getElem?_cons_succ, List.set_cons_zero, List.set_cons_succ, List.drop_succ_cons, List.drop_zero, List.take_succ_cons, List.take_zero, List.length_cons, List.length_nil, List.reverse_cons, List.reverse_nil, List.nil_append, List.cons_append, Option.toList_some, Option.toList_none, va_rf_s, true_and, and_true, true_implies, false_implies, not_true_eq_false, not_false_eq_true, Nat.reduceAdd, Nat.reduceLeDiff, Nat.le_add_left, Nat.zero_le, Nat.le_refl, znew, true_or, or_true, b01_t, b01_f, b01_ok, bool_ft, vp_b01, vp_b0, vp_b1, b01_eq0, b01_eq1, implies_true, nI_add, nI_clamp, zi_in, zi_le_t, zi_le_f, zi_lt_t, zi_lt_f, zi_eq_t, zi_eq_f, nI_leI, nI_ltI, nI_eq, z_in, pk_mul, zu_same, zu_rw, zu_ix, zi_ne0, zi_sub, zi_m1, Nat.add_sub_cancel, Nat.reduceMul, Nat.reduceSub]
      refine ⟨fun hlt => ?_, fun hge => ?_⟩
      · refine fin k q3.2.2.2 y3 n2 x3 ?_ w3
        rcases hst with ⟨e0, e⟩ | q
        · rw [if_pos hlt] at e; exact Or.inl ⟨e0, e⟩
        · exact Or.inr q
      · refine ih n2 x3 ?_
        rcases hst with ⟨e0, e⟩ | q
        · rw [if_neg hge] at e; exact Or.inl ⟨e0, e⟩
        · exact Or.inr q
  refine sX11_of_0 _ _ _ _ _ ?_
  simp (disch := omega) only [oAld, oIst, oPI, oPush, a1, List.getElem?_cons_zero, List.getElem?_cons_succ, List.set_cons_zero, List.set_cons_succ, List.drop_succ_cons, List.drop_zero, List.take_succ_cons, List.take_zero, List.length_cons, List.length_nil, List.reverse_cons, List.reverse_nil, List.nil_append, List.cons_append, Option.toList_some, Option.toList_none, va_rf_s, true_and, and_true, true_implies, false_implies, not_true_eq_false, not_false_eq_true, Nat.reduceAdd, Nat.reduceLeDiff, Nat.le_add_left, Nat.zero_le, Nat.le_refl, znew, true_or, or_true, b01_t, b01_f, b01_ok, bool_ft, vp_b01, vp_b0, vp_b1, b01_eq0, b01_eq1, implies_true, nI_add, nI_clamp, zi_in, zi_le_t, zi_le_f, zi_lt_t, zi_lt_f, zi_eq_t, zi_eq_f, nI_leI, nI_ltI, nI_eq, z_in, pk_mul, zu_same, zu_rw, zu_ix, zi_ne0, zi_sub, zi_m1, Nat.add_sub_cancel, Nat.reduceMul, Nat.reduceSub]
  exact loop 0 (by omega) (nI 0) none (Or.inl ⟨rfl, by rw [hR]; rfl⟩)
end CB2
