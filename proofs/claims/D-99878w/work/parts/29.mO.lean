/-! the model: ways -/
def upN (g : Nat → Nat) (k v : Nat) : Nat → Nat := fun j => if j = k then v else g j
def frA (g : Nat → Nat) (a b w : Nat) : Nat → Nat := if g a + w < g b then upN g b (g a + w) else g
def frS (t : ZT) (fr sh : Nat → Bool) (s : Nat) (g : Nat → Nat) : Nat → Nat :=
  if sh s = true then g else frA (frA g (tone t s) (toth t s) (if fr s = true then 0 else 1)) (toth t s) (tone t s) (if fr s = true then 0 else 1)
def frR (t : ZT) (fr sh : Nat → Bool) : Nat → (Nat → Nat) → Nat → Nat
  | 0, g => g
  | s + 1, g => frS t fr sh s (frR t fr sh s g)
def frN (t : ZT) (fr sh : Nat → Bool) : Nat → (Nat → Nat) → Nat → Nat
  | 0, g => g
  | n + 1, g => frR t fr sh (tns t) (frN t fr sh n g)
def fr0 (f : Nat) : Nat → Nat := fun c => if c = f then 0 else 1000
def farM (t : ZT) (free shut : Int32) (f : Nat) : Nat → Nat := frN t (bt free) (bt shut) 7 (fr0 f)
theorem frA_le {g : Nat → Nat} {a b w : Nat} (h : ∀ j, g j ≤ 1000) : ∀ j, frA g a b w j ≤ 1000 := by
  intro j
  unfold frA
  split
  · unfold upN
    split
    · have := h b; omega
    · exact h j
  · exact h j
theorem frS_le {t : ZT} {fr sh : Nat → Bool} {s : Nat} {g : Nat → Nat} (h : ∀ j, g j ≤ 1000) : ∀ j, frS t fr sh s g j ≤ 1000 := by
  unfold frS
  split
  · exact h
  · exact frA_le (frA_le h)
theorem frR_le {t : ZT} {fr sh : Nat → Bool} {g : Nat → Nat} (h : ∀ j, g j ≤ 1000) : ∀ s, ∀ j, frR t fr sh s g j ≤ 1000
  | 0 => h
  | s + 1 => frS_le (frR_le h s)
theorem frN_le {t : ZT} {fr sh : Nat → Bool} {g : Nat → Nat} (h : ∀ j, g j ≤ 1000) : ∀ s, ∀ j, frN t fr sh s g j ≤ 1000
  | 0 => h
  | s + 1 => frR_le (frN_le h s) _
theorem fr0_le {f : Nat} : ∀ j, fr0 f j ≤ 1000 := by
  intro j; unfold fr0; split <;> omega
theorem farM_le {t : ZT} {free shut : Int32} {f : Nat} (j : Nat) : farM t free shut f j ≤ 1000 := frN_le fr0_le _ j
def ftR (g : Nat) : Int32 := if g < 1000 then nI g else -2
def stepsR (t : ZT) (f to : Int32) : Int32 := if okI f (tnc t) = true ∧ okI to (tnc t) = true then ftR (farM t (nI 0) (nI 0) f.toNatClampNeg to.toNatClampNeg) else -1
def darkR (t : ZT) (T : Nat → Int32) (f to : Int32) : Int32 := if okI f (tnc t) = true ∧ okI to (tnc t) = true then ftR (farM t (litR t T) (nI 0) f.toNatClampNeg to.toNatClampNeg) else -1
/-- by streets of a set alone: how far -/
def farL (t : ZT) (lit : Int32) (f : Nat) : Nat → Nat := farM t (nI 0) (lit ^^^ (-1)) f
def safeR (t : ZT) (T : Nat → Int32) (f : Int32) : Int32 := if okI f (tnc t) = true then setF (fun c => decide (farL t (litR t T) f.toNatClampNeg c < 1000)) (tnc t) else -1
def brB (t : ZT) (lit : Int32) (s : Nat) : Bool := bt lit s && decide (¬ farL t (lit &&& (bitF s ^^^ (-1))) (tone t s) (toth t s) < 1000)
def bridgesR (t : ZT) (T : Nat → Int32) : Int32 := setF (brB t (litR t T)) (tns t)
abbrev cutP (t : ZT) (lit : Int32) (f to d : Nat) : Prop := nI d &&& (lit ^^^ (-1)) = nI 0 ∧ ¬ farL t (lit &&& (nI d ^^^ (-1))) f to < 1000
def cutF (t : ZT) (lit : Int32) (f to : Nat) : Nat → Int32
  | 0 => nI 10
  | d + 1 => if cutP t lit f to d ∧ bitsF 10 (nI d) < cutF t lit f to d then bitsF 10 (nI d) else cutF t lit f to d
def cutR (t : ZT) (T : Nat → Int32) (f to : Int32) : Int32 := if okI f (tnc t) = true ∧ okI to (tnc t) = true ∧ ¬ f = to then cutF t (litR t T) f.toNatClampNeg to.toNatClampNeg 1024 else -1
/-- where the young ones are -/
def rowC (t : ZT) (T : Nat → Int32) (at' : Nat → Nat) : Prop := ∀ y, y < tny t → T y = nI (at' y) ∧ at' y < tnc t
def gaN (t : ZT) (T : Nat → Int32) (at' : Nat → Nat) (c : Nat) : Nat → Nat
  | 0 => 0
  | y + 1 => if T (12 + y) = nI 0 then gaN t T at' c y + farM t (nI 0) (nI 0) c (at' y) else gaN t T at' c y
theorem gaN_le {t : ZT} {T : Nat → Int32} {at' : Nat → Nat} {c : Nat} : ∀ y, gaN t T at' c y ≤ 1000 * y
  | 0 => by simp [gaN]
  | y + 1 => by
    have := gaN_le (t := t) (T := T) (at' := at') (c := c) y
    have h2 := farM_le (t := t) (free := nI 0) (shut := nI 0) (f := c) (at' y)
    rw [gaN]; split <;> omega
abbrev zAn : Type := Option (Nat × Nat)
def an1 (a : zAn) : Int32 := match a with
  | none => -2
  | some q => nI q.1
def an2 (a : zAn) : Nat := match a with
  | none => 1000
  | some q => q.2
def gaO (t : ZT) (T : Nat → Int32) (at' : Nat → Nat) : Nat → zAn
  | 0 => none
  | c + 1 => if gaN t T at' c (tny t) < an2 (gaO t T at' c) then some (c, gaN t T at' c (tny t)) else gaO t T at' c
theorem gaO_B {t : ZT} {T : Nat → Int32} {at' : Nat → Nat} : ∀ {n}, an2 (gaO t T at' n) ≤ 1000 ∧ ∀ k v, gaO t T at' n = some (k, v) → k < n
  | 0 => ⟨Nat.le_refl _, fun k v h => by cases h⟩
  | n + 1 => by
    have ih := gaO_B (t := t) (T := T) (at' := at') (n := n)
    rw [gaO]
    split
    · refine ⟨?_, fun k v h => by cases h; omega⟩
      show gaN t T at' n (tny t) ≤ 1000
      omega
    · exact ⟨ih.1, fun k v h => by have := ih.2 k v h; omega⟩
def gatherR (t : ZT) (T : Nat → Int32) (at' : Nat → Nat) (what : Int32) : Int32 := if okI what 2 = true then (match gaO t T at' (tnc t) with
  | none => -2
  | some q => if what = nI 0 then nI q.1 else nI q.2) else -1
section MO
variable {l : Launch} {E : zE} {b z : Nat} {h : Nat → Option zSh} {S : Nat → Nat → Int32} {L : Nat → Nat → Int64} {lv : Nat} {t : ZT} {T R : Nat → Int32}
theorem zX10_fillsFar (hM : isM h b) (hX : mX b S lv t) {f : Nat} (hf : f < 7) (free shut : Int32) :
    zM l E 0 YX10_fillsFar [.ref b, .int (nI f), .int free, .int shut] (z, h, S, L) 0 0 (fun r X => r = none ∧ ∃ S', X = (z, h, S', L) ∧ zfr [43] [] b S S' ∧ ∀ j, j < 7 → S' (b + 43) j = nI (farM t free shut f j)) (fun _ _ => False) := by
  obtain ⟨⟨hl, hlv⟩, ⟨hnc, hnc7⟩, ⟨hns, hns10⟩, -⟩ := id hX.1
  refine zM.go rfl rfl (Nat.le_of_ble_eq_true rfl) (ls := [some (.ref b), some (.int (nI f)), some (.int free), some (.int shut), none, none, none, none, none]) rfl ?_
  intro V hVl hVE hVd hVc hVs hVQ hVX
  -- one street
  have one : ∀ n s w, s < tns t → w ≤ 1 → ∀ S' g x6 x7 x8, zfr [43] [] b S S' → (∀ j, j < 7 → S' (b + 43) j = nI (g j)) → (∀ j, g j ≤ 1000) →
      (∀ S' x6 x7 x8, zfr [43] [] b S S' → (∀ j, j < 7 → S' (b + 43) j = nI (frA (frA g (tone t s) (toth t s) w) (toth t s) (tone t s) w j)) → zW V YX10_fillsFar 49 [some (.ref b), some (.int (nI f)), some (.int free), some (.int shut), some (.int (nI n)), some (.int (nI (s + 1))), x6, x7, x8] [] (z, h, S', L) 0 0) →
      zW V YX10_fillsFar 91 [some (.ref b), some (.int (nI f)), some (.int free), some (.int shut), some (.int (nI n)), some (.int (nI s)), x6, x7, x8] [.int (nI w)] (z, h, S', L) 0 0 := by
    intro n s w hs hw S' g x6 x7 x8 hf1 hg hgl hn
    obtain ⟨⟨h1, h1'⟩, ⟨h2, h2'⟩, h12⟩ := hX.2.1 s hs
    have e1 := (hf1.f (j := 18) rfl).trans hl
    have e2 : S' (b + 12) (10 * lv + s) = nI (tone t s) := by rw [hf1.at (o := 12) rfl rfl]; exact h1
    have e3 : S' (b + 13) (10 * lv + s) = nI (toth t s) := by rw [hf1.at (o := 13) rfl rfl]; exact h2
    have e4 := hg (tone t s) (by omega)
    have e5 := hg (toth t s) (by omega)
    have l4 := hgl (tone t s)
    have l5 := hgl (toth t s)
    have two : ∀ S' g x6, zfr [43] [] b S S' → (∀ j, j < 7 → S' (b + 43) j = nI (g j)) → (∀ j, g j ≤ 1000) →
        (∀ S' x6 x7 x8, zfr [43] [] b S S' → (∀ j, j < 7 → S' (b + 43) j = nI (frA g (toth t s) (tone t s) w j)) → zW V YX10_fillsFar 49 [some (.ref b), some (.int (nI f)), some (.int free), some (.int shut), some (.int (nI n)), some (.int (nI (s + 1))), x6, x7, x8] [] (z, h, S', L) 0 0) →
        x6 = some (.int (nI w)) → zW V YX10_fillsFar 164 [some (.ref b), some (.int (nI f)), some (.int free), some (.int shut), some (.int (nI n)), some (.int (nI s)), x6, some (.int (nI (tone t s))), some (.int (nI (toth t s)))] [] (z, h, S', L) 0 0 := by
      rintro S' g _ hf1 hg hgl hn rfl
      have e4 := hg (tone t s) (by omega)
      have e5 := hg (toth t s) (by omega)
      have l4 := hgl (tone t s)
      have l5 := hgl (toth t s)
      refine sX10_fillsFar_164 _ _ _ _ _ ?_
      simp (disch := omega) only [oAld, oAld1, oAst1, oBin, oGR, oIfc, oIld, oInc, oNop, hM.1, hM.r63, hM.t63, hM.n63, e4, e5, List.getElem?_cons_zero, List.getElem?_cons_succ, List.set_cons_zero, List.set_cons_succ, List.drop_succ_cons, List.drop_zero, List.take_succ_cons, List.take_zero, List.length_cons, List.length_nil, List.reverse_cons, List.reverse_nil, List.nil_append, List.cons_append, Option.toList_some, Option.toList_none, va_rf_s, true_and, and_true, true_implies, false_implies, not_true_eq_false, not_false_eq_true, Nat.reduceAdd, Nat.reduceLeDiff, Nat.le_add_left, Nat.zero_le, Nat.le_refl, znew, true_or, or_true, b01_t, b01_f, b01_ok, bool_ft, vp_b01, vp_b0, vp_b1, b01_eq0, b01_eq1, implies_true, nI_add, nI_clamp, zi_in, zi_le_t, zi_le_f, zi_lt_t, zi_lt_f, zi_eq_t, zi_eq_f, nI_leI, nI_ltI, nI_eq, z_in, pk_mul, zu_same, zu_rw, zu_ix, zi_ne0, zi_sub, zi_m1, Nat.add_sub_cancel, Nat.reduceMul, Nat.reduceSub]
      refine ⟨fun hc => hn _ _ _ _ hf1 (fun j hj => ?_), fun hc => hn _ _ _ _ (hf1.row (by decide) (by decide)) (fun j hj => ?_)⟩
      · rw [frA, if_neg (by omega)]; exact hg j hj
      · rw [frA, if_pos (by omega), upN]
        by_cases hj2 : j = tone t s
        · rw [hj2, zu_same, if_pos rfl]
        · rw [zu_ix _ _ hj2, if_neg hj2]; exact hg j hj
    refine sX10_fillsFar_91 _ _ _ _ _ ?_
    simp (disch := omega) only [oAld, oAld1, oAst1, oBin, oGI, oGR, oIfc, oIld, oIst, oPush, hM.1, hM.r25, hM.t25, hM.n25, hM.r26, hM.t26, hM.n26, hM.r63, hM.t63, hM.n63, e1, e2, e3, e4, e5, List.getElem?_cons_zero, List.getElem?_cons_succ, List.set_cons_zero, List.set_cons_succ, List.drop_succ_cons, List.drop_zero, List.take_succ_cons, List.take_zero, List.length_cons, List.length_nil, List.reverse_cons, List.reverse_nil, List.nil_append, List.cons_append, Option.toList_some, Option.toList_none, va_rf_s, true_and, and_true, true_implies, false_implies, not_true_eq_false, not_false_eq_true, Nat.reduceAdd, Nat.reduceLeDiff, Nat.le_add_left, Nat.zero_le, Nat.le_refl, znew, true_or, or_true, b01_t, b01_f, b01_ok, bool_ft, vp_b01, vp_b0, vp_b1, b01_eq0, b01_eq1, implies_true, nI_add, nI_clamp, zi_in, zi_le_t, zi_le_f, zi_lt_t, zi_lt_f, zi_eq_t, zi_eq_f, nI_leI, nI_ltI, nI_eq, z_in, pk_mul, zu_same, zu_rw, zu_ix, zi_ne0, zi_sub, zi_m1, Nat.add_sub_cancel, Nat.reduceMul, Nat.reduceSub]
    refine ⟨fun hc => two S' _ _ hf1 (fun j hj => ?_) (frA_le hgl) hn rfl, fun hc => two _ _ _ (hf1.row (by decide) (by decide)) (fun j hj => ?_) (frA_le hgl) hn rfl⟩
    · rw [frA, if_neg (by omega)]; exact hg j hj
    · rw [frA, if_pos (by omega), upN]
      by_cases hj2 : j = toth t s
      · rw [hj2, zu_same, if_pos rfl]
      · rw [zu_ix _ _ hj2, if_neg hj2]; exact hg j hj
  -- all streets
  have loopS : ∀ n, n < 7 → ∀ g, (∀ j, g j ≤ 1000) → (∀ S' x5 x6 x7 x8, zfr [43] [] b S S' → (∀ j, j < 7 → S' (b + 43) j = nI (frR t (bt free) (bt shut) (tns t) g j)) → zW V YX10_fillsFar 39 [some (.ref b), some (.int (nI f)), some (.int free), some (.int shut), some (.int (nI (n + 1))), x5, x6, x7, x8] [] (z, h, S', L) 0 0) →
      ∀ s, s ≤ tns t → ∀ S' x6 x7 x8, zfr [43] [] b S S' → (∀ j, j < 7 → S' (b + 43) j = nI (frR t (bt free) (bt shut) s g j)) → zW V YX10_fillsFar 49 [some (.ref b), some (.int (nI f)), some (.int free), some (.int shut), some (.int (nI n)), some (.int (nI s)), x6, x7, x8] [] (z, h, S', L) 0 0 := by
    intro n hn7 g hgl hn
    refine z_down ?_ (fun s hs ih => ?_)
    · intro S' x6 x7 x8 hf1 hg
      have e1 := (hf1.f (j := 18) rfl).trans hl
      have e2 : S' (b + 11) lv = nI (tns t) := by rw [hf1.at (o := 11) rfl rfl]; exact hns
      refine sX10_fillsFar_49 _ _ _ _ _ ?_
      simp (disch := omega) only [oAld, oAld1, oBin, oGI, oGR, oIfc, oIld, oInc, oNop, oPush, hM.1, hM.r24, hM.t24, hM.n24, e1, e2, List.getElem?_cons_zero, List.getElem?_cons_succ, List.set_cons_zero, List.set_cons_succ, List.drop_succ_cons, List.drop_zero, List.take_succ_cons, List.take_zero, List.length_cons, List.length_nil, List.reverse_cons, List.reverse_nil, List.nil_append, List.cons_append, Option.toList_some, Option.toList_none, va_rf_s, true_and, and_true, true_implies, false_implies, not_true_eq_false, not_false_eq_true, Nat.reduceAdd, Nat.reduceLeDiff, Nat.le_add_left, Nat.zero_le, Nat.le_refl, znew, true_or, or_true, b01_t, b01_f, b01_ok, bool_ft, vp_b01, vp_b0, vp_b1, b01_eq0, b01_eq1, implies_true, nI_add, nI_clamp, zi_in, zi_le_t, zi_le_f, zi_lt_t, zi_lt_f, zi_eq_t, zi_eq_f, nI_leI, nI_ltI, nI_eq, z_in, pk_mul, zu_same, zu_rw, zu_ix, zi_ne0, zi_sub, zi_m1, Nat.add_sub_cancel, Nat.reduceMul, Nat.reduceSub]
      exact hn S' _ _ _ _ hf1 hg
    · intro S' x6 x7 x8 hf1 hg
      have e1 := (hf1.f (j := 18) rfl).trans hl
      have e2 : S' (b + 11) lv = nI (tns t) := by rw [hf1.at (o := 11) rfl rfl]; exact hns
      have hst : frR t (bt free) (bt shut) (s + 1) g = frS t (bt free) (bt shut) s (frR t (bt free) (bt shut) s g) := rfl
      rw [hst] at ih
      refine sX10_fillsFar_49 _ _ _ _ _ ?_
      simp (disch := omega) only [oAld, oAld1, oBin, oGI, oGR, oIfc, oIld, oInc, oNop, oPush, hM.1, hM.r24, hM.t24, hM.n24, e1, e2, b_one1, List.getElem?_cons_zero, List.getElem?_cons_succ, List.set_cons_zero, List.set_cons_succ, List.drop_succ_cons, List.drop_zero, List.take_succ_cons, List.take_zero, List.length_cons, List.length_nil, List.reverse_cons, List.reverse_nil, List.nil_append, List.cons_append, Option.toList_some, Option.toList_none, va_rf_s, true_and, and_true, true_implies, false_implies, not_true_eq_false, not_false_eq_true, Nat.reduceAdd, Nat.reduceLeDiff, Nat.le_add_left, Nat.zero_le, Nat.le_refl, znew, true_or, or_true, b01_t, b01_f, b01_ok, bool_ft, vp_b01, vp_b0, vp_b1, b01_eq0, b01_eq1, implies_true, nI_add, nI_clamp, zi_in, zi_le_t, zi_le_f, zi_lt_t, zi_lt_f, zi_eq_t, zi_eq_f, nI_leI, nI_ltI, nI_eq, z_in, pk_mul, zu_same, zu_rw, zu_ix, zi_ne0, zi_sub, zi_m1, Nat.add_sub_cancel, Nat.reduceMul, Nat.reduceSub]
      refine ⟨fun hc => ih S' _ _ _ hf1 (fun j hj => ?_), fun hc => ⟨fun hc2 => ?_, fun hc2 => ?_⟩⟩
      · rw [frS, if_pos hc]; exact hg j hj
      · refine one n s 0 hs (by omega) S' _ _ _ _ hf1 hg (frR_le hgl s) (fun S2 x6 x7 x8 hf2 hg2 => ih S2 _ _ _ hf2 (fun j hj => ?_))
        rw [frS, if_neg hc, if_pos hc2]; exact hg2 j hj
      · refine one n s 1 hs (by omega) S' _ _ _ _ hf1 hg (frR_le hgl s) (fun S2 x6 x7 x8 hf2 hg2 => ih S2 _ _ _ hf2 (fun j hj => ?_))
        rw [frS, if_neg hc, if_neg hc2]; exact hg2 j hj
  have loopN : ∀ n, n ≤ 7 → ∀ S' x5 x6 x7 x8, zfr [43] [] b S S' → (∀ j, j < 7 → S' (b + 43) j = nI (frN t (bt free) (bt shut) n (fr0 f) j)) → zW V YX10_fillsFar 39 [some (.ref b), some (.int (nI f)), some (.int free), some (.int shut), some (.int (nI n)), x5, x6, x7, x8] [] (z, h, S', L) 0 0 := by
    refine z_down ?_ (fun n hn7 ih => ?_)
    · intro S' x5 x6 x7 x8 hf1 hg
      refine sX10_fillsFar_39 _ _ _ _ _ ?_
      simp (disch := omega) only [oIfc, oIld, oIst, oPush, oRV, List.getElem?_cons_zero, List.getElem?_cons_succ, List.set_cons_zero, List.set_cons_succ, List.drop_succ_cons, List.drop_zero, List.take_succ_cons, List.take_zero, List.length_cons, List.length_nil, List.reverse_cons, List.reverse_nil, List.nil_append, List.cons_append, Option.toList_some, Option.toList_none, va_rf_s, true_and, and_true, true_implies, false_implies, not_true_eq_false, not_false_eq_true, Nat.reduceAdd, Nat.reduceLeDiff, Nat.le_add_left, Nat.zero_le, Nat.le_refl, znew, true_or, or_true, b01_t, b01_f, b01_ok, bool_ft, vp_b01, vp_b0, vp_b1, b01_eq0, b01_eq1, implies_true, nI_add, nI_clamp, zi_in, zi_le_t, zi_le_f, zi_lt_t, zi_lt_f, zi_eq_t, zi_eq_f, nI_leI, nI_ltI, nI_eq, z_in, pk_mul, zu_same, zu_rw, zu_ix, zi_ne0, zi_sub, zi_m1, Nat.add_sub_cancel, Nat.reduceMul, Nat.reduceSub]
      exact hVQ _ _ ⟨rfl, S', rfl, hf1, hg⟩
    · intro S' x5 x6 x7 x8 hf1 hg
      refine sX10_fillsFar_39 _ _ _ _ _ ?_
      simp (disch := omega) only [oIfc, oIld, oIst, oPush, oRV, List.getElem?_cons_zero, List.getElem?_cons_succ, List.set_cons_zero, List.set_cons_succ, List.drop_succ_cons, List.drop_zero, List.take_succ_cons, List.take_zero, List.length_cons, List.length_nil, List.reverse_cons, List.reverse_nil, List.nil_append, List.cons_append, Option.toList_some, Option.toList_none, va_rf_s, true_and, and_true, true_implies, false_implies, not_true_eq_false, not_false_eq_true, Nat.reduceAdd, Nat.reduceLeDiff, Nat.le_add_left, Nat.zero_le, Nat.le_refl, znew, true_or, or_true, b01_t, b01_f, b01_ok, bool_ft, vp_b01, vp_b0, vp_b1, b01_eq0, b01_eq1, implies_true, nI_add, nI_clamp, zi_in, zi_le_t, zi_le_f, zi_lt_t, zi_lt_f, zi_eq_t, zi_eq_f, nI_leI, nI_ltI, nI_eq, z_in, pk_mul, zu_same, zu_rw, zu_ix, zi_ne0, zi_sub, zi_m1, Nat.add_sub_cancel, Nat.reduceMul, Nat.reduceSub]
      exact loopS n hn7 _ (frN_le fr0_le n) (fun S' x5 x6 x7 x8 hf hg => ih S' _ _ _ _ hf hg) 0 (by omega) S' _ _ _ hf1 hg
  have loopC : ∀ c, c ≤ 7 → ∀ S', zfr [43] [] b S S' → (∀ j, j < c → S' (b + 43) j = nI (fr0 f j)) → zW V YX10_fillsFar 3 [some (.ref b), some (.int (nI f)), some (.int free), some (.int shut), some (.int (nI c)), none, none, none, none] [] (z, h, S', L) 0 0 := by
    refine z_down ?_ (fun c hc ih => ?_)
    · intro S' hf1 hg
      refine sX10_fillsFar_3 _ _ _ _ _ ?_
      simp (disch := omega) only [oAld, oAst1, oGR, oIfc, oIld, oInc, oIst, oNop, oPush, hM.1, hM.r63, hM.t63, hM.n63, List.getElem?_cons_zero, List.getElem?_cons_succ, List.set_cons_zero, List.set_cons_succ, List.drop_succ_cons, List.drop_zero, List.take_succ_cons, List.take_zero, List.length_cons, List.length_nil, List.reverse_cons, List.reverse_nil, List.nil_append, List.cons_append, Option.toList_some, Option.toList_none, va_rf_s, true_and, and_true, true_implies, false_implies, not_true_eq_false, not_false_eq_true, Nat.reduceAdd, Nat.reduceLeDiff, Nat.le_add_left, Nat.zero_le, Nat.le_refl, znew, true_or, or_true, b01_t, b01_f, b01_ok, bool_ft, vp_b01, vp_b0, vp_b1, b01_eq0, b01_eq1, implies_true, nI_add, nI_clamp, zi_in, zi_le_t, zi_le_f, zi_lt_t, zi_lt_f, zi_eq_t, zi_eq_f, nI_leI, nI_ltI, nI_eq, z_in, pk_mul, zu_same, zu_rw, zu_ix, zi_ne0, zi_sub, zi_m1, Nat.add_sub_cancel, Nat.reduceMul, Nat.reduceSub]
      exact loopN 0 (by omega) S' _ _ _ _ hf1 hg
    · intro S' hf1 hg
      refine sX10_fillsFar_3 _ _ _ _ _ ?_
      simp (disch := omega) only [oAld, oAst1, oGR, oIfc, oIld, oInc, oIst, oNop, oPush, hM.1, hM.r63, hM.t63, hM.n63, List.getElem?_cons_zero, List.getElem?_cons_succ, List.set_cons_zero, List.set_cons_succ, List.drop_succ_cons, List.drop_zero, List.take_succ_cons, List.take_zero, List.length_cons, List.length_nil, List.reverse_cons, List.reverse_nil, List.nil_append, List.cons_append, Option.toList_some, Option.toList_none, va_rf_s, true_and, and_true, true_implies, false_implies, not_true_eq_false, not_false_eq_true, Nat.reduceAdd, Nat.reduceLeDiff, Nat.le_add_left, Nat.zero_le, Nat.le_refl, znew, true_or, or_true, b01_t, b01_f, b01_ok, bool_ft, vp_b01, vp_b0, vp_b1, b01_eq0, b01_eq1, implies_true, nI_add, nI_clamp, zi_in, zi_le_t, zi_le_f, zi_lt_t, zi_lt_f, zi_eq_t, zi_eq_f, nI_leI, nI_ltI, nI_eq, z_in, pk_mul, zu_same, zu_rw, zu_ix, zi_ne0, zi_sub, zi_m1, Nat.add_sub_cancel, Nat.reduceMul, Nat.reduceSub]
      refine ⟨fun he => ih _ (hf1.row (by decide) (by decide)) (fun j hj => ?_), fun he => ih _ (hf1.row (by decide) (by decide)) (fun j hj => ?_)⟩
      · by_cases hj2 : j = c
        · rw [hj2, zu_same, fr0, if_pos he]
        · rw [zu_ix _ _ hj2]; exact hg j (by omega)
      · by_cases hj2 : j = c
        · rw [hj2, zu_same, fr0, if_neg he]
        · rw [zu_ix _ _ hj2]; exact hg j (by omega)
  refine sX10_fillsFar_0 _ _ _ _ _ ?_
  simp (disch := omega) only [oIst, oPush, List.getElem?_cons_zero, List.getElem?_cons_succ, List.set_cons_zero, List.set_cons_succ, List.drop_succ_cons, List.drop_zero, List.take_succ_cons, List.take_zero, List.length_cons, List.length_nil, List.reverse_cons, List.reverse_nil, List.nil_append, List.cons_append, Option.toList_some, Option.toList_none, va_rf_s, true_and, and_true, true_implies, false_implies, not_true_eq_false, not_false_eq_true, Nat.reduceAdd, Nat.reduceLeDiff, Nat.le_add_left, Nat.zero_le, Nat.le_refl, znew, true_or, or_true, b01_t, b01_f, b01_ok, bool_ft, vp_b01, vp_b0, vp_b1, b01_eq0, b01_eq1, implies_true, nI_add, nI_clamp, zi_in, zi_le_t, zi_le_f, zi_lt_t, zi_lt_f, zi_eq_t, zi_eq_f, nI_leI, nI_ltI, nI_eq, z_in, pk_mul, zu_same, zu_rw, zu_ix, zi_ne0, zi_sub, zi_m1, Nat.add_sub_cancel, Nat.reduceMul, Nat.reduceSub]
  exact loopC 0 (by omega) S zfr.rf (fun j hj => absurd hj (by omega))
theorem zX10_farTo (hM : isM h b) {g c : Nat} (hg : S (b + 43) c = nI g) (hc : c < 7) (hgl : g ≤ 1000) :
    zM l E 0 YX10_farTo [.ref b, .int (nI c)] (z, h, S, L) 0 0 (fun r X => r = some (.int (ftR g)) ∧ X = (z, h, S, L)) (fun _ _ => False) := by
  refine zM.go rfl rfl (Nat.le_of_ble_eq_true rfl) (ls := [some (.ref b), some (.int (nI c))]) rfl ?_
  intro V hVl hVE hVd hVc hVs hVQ hVX
  refine sX10_farTo_0 _ _ _ _ _ ?_
  simp (disch := omega) only [oAld, oAld1, oGR, oIfc, oIld, oNop, oPush, oRI, hM.1, hM.r63, hM.t63, hM.n63, hg, List.getElem?_cons_zero, List.getElem?_cons_succ, List.set_cons_zero, List.set_cons_succ, List.drop_succ_cons, List.drop_zero, List.take_succ_cons, List.take_zero, List.length_cons, List.length_nil, List.reverse_cons, List.reverse_nil, List.nil_append, List.cons_append, Option.toList_some, Option.toList_none, va_rf_s, true_and, and_true, true_implies, false_implies, not_true_eq_false, not_false_eq_true, Nat.reduceAdd, Nat.reduceLeDiff, Nat.le_add_left, Nat.zero_le, Nat.le_refl, znew, true_or, or_true, b01_t, b01_f, b01_ok, bool_ft, vp_b01, vp_b0, vp_b1, b01_eq0, b01_eq1, implies_true, nI_add, nI_clamp, zi_in, zi_le_t, zi_le_f, zi_lt_t, zi_lt_f, zi_eq_t, zi_eq_f, nI_leI, nI_ltI, nI_eq, z_in, pk_mul, zu_same, zu_rw, zu_ix, zi_ne0, zi_sub, zi_m1, Nat.add_sub_cancel, Nat.reduceMul, Nat.reduceSub]
  refine ⟨fun h0 => hVQ _ _ ⟨by rw [ftR, if_pos h0], rfl⟩, fun h0 => hVQ _ _ ⟨by rw [ftR, if_neg h0], rfl⟩⟩
theorem zX10_steps (hM : isM h b) (hQ : mQ b S lv t T) (f to : Int32) :
    zM l E 2 YX10_steps [.ref b, .int f, .int to] (z, h, S, L) 0 0 (fun r X => ∃ S', X = (z, h, S', L) ∧ mE b S S' ∧ r = some (.int (stepsR t f to))) (fun _ _ => False) := by
  obtain ⟨hX, hZ, hN⟩ := id hQ
  have hnc7 : tnc t ≤ 7 := hX.1.2.1.2
  refine zM.go rfl rfl (Nat.le_of_ble_eq_true rfl) (ls := [some (.ref b), some (.int f), some (.int to)]) rfl ?_
  intro V hVl hVE hVd hVc hVs hVQ hVX
  refine sX10_steps_0 _ _ _ _ _ ?_
  simp (disch := omega) only [oAld, oCV, oIld, hM.1, List.getElem?_cons_zero, List.getElem?_cons_succ, List.set_cons_zero, List.set_cons_succ, List.drop_succ_cons, List.drop_zero, List.take_succ_cons, List.take_zero, List.length_cons, List.length_nil, List.reverse_cons, List.reverse_nil, List.nil_append, List.cons_append, Option.toList_some, Option.toList_none, va_rf_s, true_and, and_true, true_implies, false_implies, not_true_eq_false, not_false_eq_true, Nat.reduceAdd, Nat.reduceLeDiff, Nat.le_add_left, Nat.zero_le, Nat.le_refl, znew, true_or, or_true, b01_t, b01_f, b01_ok, bool_ft, vp_b01, vp_b0, vp_b1, b01_eq0, b01_eq1, implies_true, nI_add, nI_clamp, zi_in, zi_le_t, zi_le_f, zi_lt_t, zi_lt_f, zi_eq_t, zi_eq_f, nI_leI, nI_ltI, nI_eq, z_in, pk_mul, zu_same, zu_rw, zu_ix, zi_ne0, zi_sub, zi_m1, Nat.add_sub_cancel, Nat.reduceMul, Nat.reduceSub]
  refine zC.of0 (zX10_isCorner hM hX.1 _) (by omega) (Nat.zero_le _) (Nat.zero_le _) ?_
  rintro _ _ ⟨rfl, rfl⟩
  refine sX10_steps_5 _ _ _ _ _ ?_
  simp (disch := omega) only [oAld, oCV, oIf, oIld, oPush, oRI, hM.1, List.getElem?_cons_zero, List.getElem?_cons_succ, List.set_cons_zero, List.set_cons_succ, List.drop_succ_cons, List.drop_zero, List.take_succ_cons, List.take_zero, List.length_cons, List.length_nil, List.reverse_cons, List.reverse_nil, List.nil_append, List.cons_append, Option.toList_some, Option.toList_none, va_rf_s, true_and, and_true, true_implies, false_implies, not_true_eq_false, not_false_eq_true, Nat.reduceAdd, Nat.reduceLeDiff, Nat.le_add_left, Nat.zero_le, Nat.le_refl, znew, true_or, or_true, b01_t, b01_f, b01_ok, bool_ft, vp_b01, vp_b0, vp_b1, b01_eq0, b01_eq1, implies_true, nI_add, nI_clamp, zi_in, zi_le_t, zi_le_f, zi_lt_t, zi_lt_f, zi_eq_t, zi_eq_f, nI_leI, nI_ltI, nI_eq, z_in, pk_mul, zu_same, zu_rw, zu_ix, zi_ne0, zi_sub, zi_m1, Nat.add_sub_cancel, Nat.reduceMul, Nat.reduceSub]
  refine ⟨fun hok => hVQ _ _ ⟨S, rfl, mE.rf hZ, by simp [stepsR, hok]⟩, fun hok => ?_⟩
  have hok : okI f (tnc t) = true := by simpa using hok
  obtain ⟨j, hj, rfl⟩ := (okI_iff (by omega)).mp hok
  refine zC.of0 (zX10_isCorner hM hX.1 _) (by omega) (Nat.zero_le _) (Nat.zero_le _) ?_
  rintro _ _ ⟨rfl, rfl⟩
  refine sX10_steps_13 _ _ _ _ _ ?_
  simp (disch := omega) only [oAld, oCV, oIf, oIld, oPush, oRI, hM.1, List.getElem?_cons_zero, List.getElem?_cons_succ, List.set_cons_zero, List.set_cons_succ, List.drop_succ_cons, List.drop_zero, List.take_succ_cons, List.take_zero, List.length_cons, List.length_nil, List.reverse_cons, List.reverse_nil, List.nil_append, List.cons_append, Option.toList_some, Option.toList_none, va_rf_s, true_and, and_true, true_implies, false_implies, not_true_eq_false, not_false_eq_true, Nat.reduceAdd, Nat.reduceLeDiff, Nat.le_add_left, Nat.zero_le, Nat.le_refl, znew, true_or, or_true, b01_t, b01_f, b01_ok, bool_ft, vp_b01, vp_b0, vp_b1, b01_eq0, b01_eq1, implies_true, nI_add, nI_clamp, zi_in, zi_le_t, zi_le_f, zi_lt_t, zi_lt_f, zi_eq_t, zi_eq_f, nI_leI, nI_ltI, nI_eq, z_in, pk_mul, zu_same, zu_rw, zu_ix, zi_ne0, zi_sub, zi_m1, Nat.add_sub_cancel, Nat.reduceMul, Nat.reduceSub]
  refine ⟨fun hok2 => hVQ _ _ ⟨S, rfl, mE.rf hZ, by simp [stepsR, hok2]⟩, fun hok2 => ?_⟩
  have hok2 : okI to (tnc t) = true := by simpa using hok2
  obtain ⟨i, hi, rfl⟩ := (okI_iff (by omega)).mp hok2
  refine zC.of0 (zX10_fillsFar hM hX (show j < 7 by omega) _ _) (by omega) (Nat.zero_le _) (Nat.zero_le _) ?_
  rintro _ _ ⟨rfl, S1, rfl, hf1, hg1⟩
  refine sX10_steps_25 _ _ _ _ _ ?_
  simp (disch := omega) only [oAld, oCV, oIld, hM.1, List.getElem?_cons_zero, List.getElem?_cons_succ, List.set_cons_zero, List.set_cons_succ, List.drop_succ_cons, List.drop_zero, List.take_succ_cons, List.take_zero, List.length_cons, List.length_nil, List.reverse_cons, List.reverse_nil, List.nil_append, List.cons_append, Option.toList_some, Option.toList_none, va_rf_s, true_and, and_true, true_implies, false_implies, not_true_eq_false, not_false_eq_true, Nat.reduceAdd, Nat.reduceLeDiff, Nat.le_add_left, Nat.zero_le, Nat.le_refl, znew, true_or, or_true, b01_t, b01_f, b01_ok, bool_ft, vp_b01, vp_b0, vp_b1, b01_eq0, b01_eq1, implies_true, nI_add, nI_clamp, zi_in, zi_le_t, zi_le_f, zi_lt_t, zi_lt_f, zi_eq_t, zi_eq_f, nI_leI, nI_ltI, nI_eq, z_in, pk_mul, zu_same, zu_rw, zu_ix, zi_ne0, zi_sub, zi_m1, Nat.add_sub_cancel, Nat.reduceMul, Nat.reduceSub]
  refine zC.of0 (zX10_farTo hM (hg1 i (by omega)) (by omega) (farM_le i)) (by omega) (Nat.zero_le _) (Nat.zero_le _) ?_
  rintro _ _ ⟨rfl, rfl⟩
  refine sX10_steps_30 _ _ _ _ _ ?_
  simp (disch := omega) only [oRI, List.getElem?_cons_zero, List.getElem?_cons_succ, List.set_cons_zero, List.set_cons_succ, List.drop_succ_cons, List.drop_zero, List.take_succ_cons, List.take_zero, List.length_cons, List.length_nil, List.reverse_cons, List.reverse_nil, List.nil_append, List.cons_append, Option.toList_some, Option.toList_none, va_rf_s, true_and, and_true, true_implies, false_implies, not_true_eq_false, not_false_eq_true, Nat.reduceAdd, Nat.reduceLeDiff, Nat.le_add_left, Nat.zero_le, Nat.le_refl, znew, true_or, or_true, b01_t, b01_f, b01_ok, bool_ft, vp_b01, vp_b0, vp_b1, b01_eq0, b01_eq1, implies_true, nI_add, nI_clamp, zi_in, zi_le_t, zi_le_f, zi_lt_t, zi_lt_f, zi_eq_t, zi_eq_f, nI_leI, nI_ltI, nI_eq, z_in, pk_mul, zu_same, zu_rw, zu_ix, zi_ne0, zi_sub, zi_m1, Nat.add_sub_cancel, Nat.reduceMul, Nat.reduceSub]
  exact hVQ _ _ ⟨S1, rfl, (mE.rf hZ).q hf1 rfl rfl rfl, by rw [stepsR, if_pos ⟨hok, hok2⟩, nI_clamp (by omega), nI_clamp (by omega)]⟩
theorem zX10_litNow (hM : isM h b) (hQ : mQ b S lv t T) :
    zM l E 2 YX10_litNow [.ref b] (z, h, S, L) 0 0 (fun r X => ∃ S', X = (z, h, S', L) ∧ mE b S S' ∧ S' (b + 37) = T ∧ r = some (.int (litR t T))) (fun _ _ => False) := by
  refine zM.go rfl rfl (Nat.le_of_ble_eq_true rfl) (ls := [some (.ref b)]) rfl ?_
  intro V hVl hVE hVd hVc hVs hVQ hVX
  refine sX10_litNow_0 _ _ _ _ _ ?_
  simp (disch := omega) only [oAld, oCV, hM.1, List.getElem?_cons_zero, List.getElem?_cons_succ, List.set_cons_zero, List.set_cons_succ, List.drop_succ_cons, List.drop_zero, List.take_succ_cons, List.take_zero, List.length_cons, List.length_nil, List.reverse_cons, List.reverse_nil, List.nil_append, List.cons_append, Option.toList_some, Option.toList_none, va_rf_s, true_and, and_true, true_implies, false_implies, not_true_eq_false, not_false_eq_true, Nat.reduceAdd, Nat.reduceLeDiff, Nat.le_add_left, Nat.zero_le, Nat.le_refl, znew, true_or, or_true, b01_t, b01_f, b01_ok, bool_ft, vp_b01, vp_b0, vp_b1, b01_eq0, b01_eq1, implies_true, nI_add, nI_clamp, zi_in, zi_le_t, zi_le_f, zi_lt_t, zi_lt_f, zi_eq_t, zi_eq_f, nI_leI, nI_ltI, nI_eq, z_in, pk_mul, zu_same, zu_rw, zu_ix, zi_ne0, zi_sub, zi_m1, Nat.add_sub_cancel, Nat.reduceMul, Nat.reduceSub]
  refine zC.of0 (zG_copies hM hQ) (by omega) (Nat.zero_le _) (Nat.zero_le _) ?_
  rintro _ _ ⟨rfl, S1, rfl, hE, hX1, hr, hN, -, -⟩
  refine sX10_litNow_4 _ _ _ _ _ ?_
  simp (disch := omega) only [oAld, oCV, hM.1, List.getElem?_cons_zero, List.getElem?_cons_succ, List.set_cons_zero, List.set_cons_succ, List.drop_succ_cons, List.drop_zero, List.take_succ_cons, List.take_zero, List.length_cons, List.length_nil, List.reverse_cons, List.reverse_nil, List.nil_append, List.cons_append, Option.toList_some, Option.toList_none, va_rf_s, true_and, and_true, true_implies, false_implies, not_true_eq_false, not_false_eq_true, Nat.reduceAdd, Nat.reduceLeDiff, Nat.le_add_left, Nat.zero_le, Nat.le_refl, znew, true_or, or_true, b01_t, b01_f, b01_ok, bool_ft, vp_b01, vp_b0, vp_b1, b01_eq0, b01_eq1, implies_true, nI_add, nI_clamp, zi_in, zi_le_t, zi_le_f, zi_lt_t, zi_lt_f, zi_eq_t, zi_eq_f, nI_leI, nI_ltI, nI_eq, z_in, pk_mul, zu_same, zu_rw, zu_ix, zi_ne0, zi_sub, zi_m1, Nat.add_sub_cancel, Nat.reduceMul, Nat.reduceSub]
  refine zC.of0 (zG_lit hM hX1 hr) (by omega) (Nat.zero_le _) (Nat.zero_le _) ?_
  rintro _ _ ⟨S2, rfl, hf2, rfl⟩
  refine sX10_litNow_8 _ _ _ _ _ ?_
  simp (disch := omega) only [oRI, List.getElem?_cons_zero, List.getElem?_cons_succ, List.set_cons_zero, List.set_cons_succ, List.drop_succ_cons, List.drop_zero, List.take_succ_cons, List.take_zero, List.length_cons, List.length_nil, List.reverse_cons, List.reverse_nil, List.nil_append, List.cons_append, Option.toList_some, Option.toList_none, va_rf_s, true_and, and_true, true_implies, false_implies, not_true_eq_false, not_false_eq_true, Nat.reduceAdd, Nat.reduceLeDiff, Nat.le_add_left, Nat.zero_le, Nat.le_refl, znew, true_or, or_true, b01_t, b01_f, b01_ok, bool_ft, vp_b01, vp_b0, vp_b1, b01_eq0, b01_eq1, implies_true, nI_add, nI_clamp, zi_in, zi_le_t, zi_le_f, zi_lt_t, zi_lt_f, zi_eq_t, zi_eq_f, nI_leI, nI_ltI, nI_eq, z_in, pk_mul, zu_same, zu_rw, zu_ix, zi_ne0, zi_sub, zi_m1, Nat.add_sub_cancel, Nat.reduceMul, Nat.reduceSub]
  exact hVQ _ _ ⟨S2, rfl, hE.q hf2 rfl rfl rfl, (hf2.at (o := 37) rfl rfl).trans hr, rfl⟩
theorem zX10_dark (hM : isM h b) (hQ : mQ b S lv t T) (f to : Int32) :
    zM l E 3 YX10_dark [.ref b, .int f, .int to] (z, h, S, L) 0 0 (fun r X => ∃ S', X = (z, h, S', L) ∧ mE b S S' ∧ r = some (.int (darkR t T f to))) (fun _ _ => False) := by
  obtain ⟨hX, hZ, hN⟩ := id hQ
  have hnc7 : tnc t ≤ 7 := hX.1.2.1.2
  refine zM.go rfl rfl (Nat.le_of_ble_eq_true rfl) (ls := [some (.ref b), some (.int f), some (.int to)]) rfl ?_
  intro V hVl hVE hVd hVc hVs hVQ hVX
  refine sX10_dark_0 _ _ _ _ _ ?_
  simp (disch := omega) only [oAld, oCV, oIld, hM.1, List.getElem?_cons_zero, List.getElem?_cons_succ, List.set_cons_zero, List.set_cons_succ, List.drop_succ_cons, List.drop_zero, List.take_succ_cons, List.take_zero, List.length_cons, List.length_nil, List.reverse_cons, List.reverse_nil, List.nil_append, List.cons_append, Option.toList_some, Option.toList_none, va_rf_s, true_and, and_true, true_implies, false_implies, not_true_eq_false, not_false_eq_true, Nat.reduceAdd, Nat.reduceLeDiff, Nat.le_add_left, Nat.zero_le, Nat.le_refl, znew, true_or, or_true, b01_t, b01_f, b01_ok, bool_ft, vp_b01, vp_b0, vp_b1, b01_eq0, b01_eq1, implies_true, nI_add, nI_clamp, zi_in, zi_le_t, zi_le_f, zi_lt_t, zi_lt_f, zi_eq_t, zi_eq_f, nI_leI, nI_ltI, nI_eq, z_in, pk_mul, zu_same, zu_rw, zu_ix, zi_ne0, zi_sub, zi_m1, Nat.add_sub_cancel, Nat.reduceMul, Nat.reduceSub]
  refine zC.of0 (zX10_isCorner hM hX.1 _) (by omega) (Nat.zero_le _) (Nat.zero_le _) ?_
  rintro _ _ ⟨rfl, rfl⟩
  refine sX10_dark_5 _ _ _ _ _ ?_
  simp (disch := omega) only [oAld, oCV, oIf, oIld, oPush, oRI, hM.1, List.getElem?_cons_zero, List.getElem?_cons_succ, List.set_cons_zero, List.set_cons_succ, List.drop_succ_cons, List.drop_zero, List.take_succ_cons, List.take_zero, List.length_cons, List.length_nil, List.reverse_cons, List.reverse_nil, List.nil_append, List.cons_append, Option.toList_some, Option.toList_none, va_rf_s, true_and, and_true, true_implies, false_implies, not_true_eq_false, not_false_eq_true, Nat.reduceAdd, Nat.reduceLeDiff, Nat.le_add_left, Nat.zero_le, Nat.le_refl, znew, true_or, or_true, b01_t, b01_f, b01_ok, bool_ft, vp_b01, vp_b0, vp_b1, b01_eq0, b01_eq1, implies_true, nI_add, nI_clamp, zi_in, zi_le_t, zi_le_f, zi_lt_t, zi_lt_f, zi_eq_t, zi_eq_f, nI_leI, nI_ltI, nI_eq, z_in, pk_mul, zu_same, zu_rw, zu_ix, zi_ne0, zi_sub, zi_m1, Nat.add_sub_cancel, Nat.reduceMul, Nat.reduceSub]
  refine ⟨fun hok => hVQ _ _ ⟨S, rfl, mE.rf hZ, by simp [darkR, hok]⟩, fun hok => ?_⟩
  have hok : okI f (tnc t) = true := by simpa using hok
  obtain ⟨j, hj, rfl⟩ := (okI_iff (by omega)).mp hok
  refine zC.of0 (zX10_isCorner hM hX.1 _) (by omega) (Nat.zero_le _) (Nat.zero_le _) ?_
  rintro _ _ ⟨rfl, rfl⟩
  refine sX10_dark_13 _ _ _ _ _ ?_
  simp (disch := omega) only [oAld, oCV, oIf, oIld, oPush, oRI, hM.1, List.getElem?_cons_zero, List.getElem?_cons_succ, List.set_cons_zero, List.set_cons_succ, List.drop_succ_cons, List.drop_zero, List.take_succ_cons, List.take_zero, List.length_cons, List.length_nil, List.reverse_cons, List.reverse_nil, List.nil_append, List.cons_append, Option.toList_some, Option.toList_none, va_rf_s, true_and, and_true, true_implies, false_implies, not_true_eq_false, not_false_eq_true, Nat.reduceAdd, Nat.reduceLeDiff, Nat.le_add_left, Nat.zero_le, Nat.le_refl, znew, true_or, or_true, b01_t, b01_f, b01_ok, bool_ft, vp_b01, vp_b0, vp_b1, b01_eq0, b01_eq1, implies_true, nI_add, nI_clamp, zi_in, zi_le_t, zi_le_f, zi_lt_t, zi_lt_f, zi_eq_t, zi_eq_f, nI_leI, nI_ltI, nI_eq, z_in, pk_mul, zu_same, zu_rw, zu_ix, zi_ne0, zi_sub, zi_m1, Nat.add_sub_cancel, Nat.reduceMul, Nat.reduceSub]
  refine ⟨fun hok2 => hVQ _ _ ⟨S, rfl, mE.rf hZ, by simp [darkR, hok2]⟩, fun hok2 => ?_⟩
  have hok2 : okI to (tnc t) = true := by simpa using hok2
  obtain ⟨i, hi, rfl⟩ := (okI_iff (by omega)).mp hok2
  refine zC.of0 (zX10_litNow hM hQ) (by omega) (Nat.zero_le _) (Nat.zero_le _) ?_
  rintro _ _ ⟨S1, rfl, hE, -, rfl⟩
  refine sX10_dark_24 _ _ _ _ _ ?_
  simp (disch := omega) only [oCV, oPush, hM.1, List.getElem?_cons_zero, List.getElem?_cons_succ, List.set_cons_zero, List.set_cons_succ, List.drop_succ_cons, List.drop_zero, List.take_succ_cons, List.take_zero, List.length_cons, List.length_nil, List.reverse_cons, List.reverse_nil, List.nil_append, List.cons_append, Option.toList_some, Option.toList_none, va_rf_s, true_and, and_true, true_implies, false_implies, not_true_eq_false, not_false_eq_true, Nat.reduceAdd, Nat.reduceLeDiff, Nat.le_add_left, Nat.zero_le, Nat.le_refl, znew, true_or, or_true, b01_t, b01_f, b01_ok, bool_ft, vp_b01, vp_b0, vp_b1, b01_eq0, b01_eq1, implies_true, nI_add, nI_clamp, zi_in, zi_le_t, zi_le_f, zi_lt_t, zi_lt_f, zi_eq_t, zi_eq_f, nI_leI, nI_ltI, nI_eq, z_in, pk_mul, zu_same, zu_rw, zu_ix, zi_ne0, zi_sub, zi_m1, Nat.add_sub_cancel, Nat.reduceMul, Nat.reduceSub]
  refine zC.of0 (zX10_fillsFar hM (hQ.fr hE).1 (show j < 7 by omega) _ _) (by omega) (Nat.zero_le _) (Nat.zero_le _) ?_
  rintro _ _ ⟨rfl, S2, rfl, hf2, hg2⟩
  refine sX10_dark_28 _ _ _ _ _ ?_
  simp (disch := omega) only [oAld, oCV, oIld, hM.1, List.getElem?_cons_zero, List.getElem?_cons_succ, List.set_cons_zero, List.set_cons_succ, List.drop_succ_cons, List.drop_zero, List.take_succ_cons, List.take_zero, List.length_cons, List.length_nil, List.reverse_cons, List.reverse_nil, List.nil_append, List.cons_append, Option.toList_some, Option.toList_none, va_rf_s, true_and, and_true, true_implies, false_implies, not_true_eq_false, not_false_eq_true, Nat.reduceAdd, Nat.reduceLeDiff, Nat.le_add_left, Nat.zero_le, Nat.le_refl, znew, true_or, or_true, b01_t, b01_f, b01_ok, bool_ft, vp_b01, vp_b0, vp_b1, b01_eq0, b01_eq1, implies_true, nI_add, nI_clamp, zi_in, zi_le_t, zi_le_f, zi_lt_t, zi_lt_f, zi_eq_t, zi_eq_f, nI_leI, nI_ltI, nI_eq, z_in, pk_mul, zu_same, zu_rw, zu_ix, zi_ne0, zi_sub, zi_m1, Nat.add_sub_cancel, Nat.reduceMul, Nat.reduceSub]
  refine zC.of0 (zX10_farTo hM (hg2 i (by omega)) (by omega) (farM_le i)) (by omega) (Nat.zero_le _) (Nat.zero_le _) ?_
  rintro _ _ ⟨rfl, rfl⟩
  refine sX10_dark_33 _ _ _ _ _ ?_
  simp (disch := omega) only [oRI, List.getElem?_cons_zero, List.getElem?_cons_succ, List.set_cons_zero, List.set_cons_succ, List.drop_succ_cons, List.drop_zero, List.take_succ_cons, List.take_zero, List.length_cons, List.length_nil, List.reverse_cons, List.reverse_nil, List.nil_append, List.cons_append, Option.toList_some, Option.toList_none, va_rf_s, true_and, and_true, true_implies, false_implies, not_true_eq_false, not_false_eq_true, Nat.reduceAdd, Nat.reduceLeDiff, Nat.le_add_left, Nat.zero_le, Nat.le_refl, znew, true_or, or_true, b01_t, b01_f, b01_ok, bool_ft, vp_b01, vp_b0, vp_b1, b01_eq0, b01_eq1, implies_true, nI_add, nI_clamp, zi_in, zi_le_t, zi_le_f, zi_lt_t, zi_lt_f, zi_eq_t, zi_eq_f, nI_leI, nI_ltI, nI_eq, z_in, pk_mul, zu_same, zu_rw, zu_ix, zi_ne0, zi_sub, zi_m1, Nat.add_sub_cancel, Nat.reduceMul, Nat.reduceSub]
  exact hVQ _ _ ⟨S2, rfl, hE.q hf2 rfl rfl rfl, by rw [darkR, if_pos ⟨hok, hok2⟩, nI_clamp (by omega), nI_clamp (by omega)]⟩
theorem zX10_fillsLit (hM : isM h b) (hX : mX b S lv t) {f : Nat} (hf : f < 7) (lit : Int32) :
    zM l E 1 YX10_fillsLit [.ref b, .int (nI f), .int lit] (z, h, S, L) 0 0 (fun r X => r = none ∧ ∃ S', X = (z, h, S', L) ∧ zfr [43] [] b S S' ∧ ∀ j, j < 7 → S' (b + 43) j = nI (farL t lit f j)) (fun _ _ => False) := by
  refine zM.go rfl rfl (Nat.le_of_ble_eq_true rfl) (ls := [some (.ref b), some (.int (nI f)), some (.int lit)]) rfl ?_
  intro V hVl hVE hVd hVc hVs hVQ hVX
  refine sX10_fillsLit_0 _ _ _ _ _ ?_
  simp (disch := omega) only [oAld, oBin, oCV, oIld, oPush, hM.1, List.getElem?_cons_zero, List.getElem?_cons_succ, List.set_cons_zero, List.set_cons_succ, List.drop_succ_cons, List.drop_zero, List.take_succ_cons, List.take_zero, List.length_cons, List.length_nil, List.reverse_cons, List.reverse_nil, List.nil_append, List.cons_append, Option.toList_some, Option.toList_none, va_rf_s, true_and, and_true, true_implies, false_implies, not_true_eq_false, not_false_eq_true, Nat.reduceAdd, Nat.reduceLeDiff, Nat.le_add_left, Nat.zero_le, Nat.le_refl, znew, true_or, or_true, b01_t, b01_f, b01_ok, bool_ft, vp_b01, vp_b0, vp_b1, b01_eq0, b01_eq1, implies_true, nI_add, nI_clamp, zi_in, zi_le_t, zi_le_f, zi_lt_t, zi_lt_f, zi_eq_t, zi_eq_f, nI_leI, nI_ltI, nI_eq, z_in, pk_mul, zu_same, zu_rw, zu_ix, zi_ne0, zi_sub, zi_m1, Nat.add_sub_cancel, Nat.reduceMul, Nat.reduceSub]
  refine zC.of0 (zX10_fillsFar hM hX hf _ _) (by omega) (Nat.zero_le _) (Nat.zero_le _) ?_
  rintro _ _ ⟨rfl, S1, rfl, hf1, hg1⟩
  refine sX10_fillsLit_9 _ _ _ _ _ ?_
  simp (disch := omega) only [oRV, List.getElem?_cons_zero, List.getElem?_cons_succ, List.set_cons_zero, List.set_cons_succ, List.drop_succ_cons, List.drop_zero, List.take_succ_cons, List.take_zero, List.length_cons, List.length_nil, List.reverse_cons, List.reverse_nil, List.nil_append, List.cons_append, Option.toList_some, Option.toList_none, va_rf_s, true_and, and_true, true_implies, false_implies, not_true_eq_false, not_false_eq_true, Nat.reduceAdd, Nat.reduceLeDiff, Nat.le_add_left, Nat.zero_le, Nat.le_refl, znew, true_or, or_true, b01_t, b01_f, b01_ok, bool_ft, vp_b01, vp_b0, vp_b1, b01_eq0, b01_eq1, implies_true, nI_add, nI_clamp, zi_in, zi_le_t, zi_le_f, zi_lt_t, zi_lt_f, zi_eq_t, zi_eq_f, nI_leI, nI_ltI, nI_eq, z_in, pk_mul, zu_same, zu_rw, zu_ix, zi_ne0, zi_sub, zi_m1, Nat.add_sub_cancel, Nat.reduceMul, Nat.reduceSub]
  exact hVQ _ _ ⟨rfl, S1, rfl, hf1, hg1⟩
theorem zX10_safe (hM : isM h b) (hQ : mQ b S lv t T) (f : Int32) :
    zM l E 3 YX10_safe [.ref b, .int f] (z, h, S, L) 0 0 (fun r X => ∃ S', X = (z, h, S', L) ∧ mE b S S' ∧ r = some (.int (safeR t T f))) (fun _ _ => False) := by
  obtain ⟨hX, hZ, hN⟩ := id hQ
  have hnc7 : tnc t ≤ 7 := hX.1.2.1.2
  refine zM.go rfl rfl (Nat.le_of_ble_eq_true rfl) (ls := [some (.ref b), some (.int f), none, none]) rfl ?_
  intro V hVl hVE hVd hVc hVs hVQ hVX
  refine sX10_safe_0 _ _ _ _ _ ?_
  simp (disch := omega) only [oAld, oCV, oIld, hM.1, List.getElem?_cons_zero, List.getElem?_cons_succ, List.set_cons_zero, List.set_cons_succ, List.drop_succ_cons, List.drop_zero, List.take_succ_cons, List.take_zero, List.length_cons, List.length_nil, List.reverse_cons, List.reverse_nil, List.nil_append, List.cons_append, Option.toList_some, Option.toList_none, va_rf_s, true_and, and_true, true_implies, false_implies, not_true_eq_false, not_false_eq_true, Nat.reduceAdd, Nat.reduceLeDiff, Nat.le_add_left, Nat.zero_le, Nat.le_refl, znew, true_or, or_true, b01_t, b01_f, b01_ok, bool_ft, vp_b01, vp_b0, vp_b1, b01_eq0, b01_eq1, implies_true, nI_add, nI_clamp, zi_in, zi_le_t, zi_le_f, zi_lt_t, zi_lt_f, zi_eq_t, zi_eq_f, nI_leI, nI_ltI, nI_eq, z_in, pk_mul, zu_same, zu_rw, zu_ix, zi_ne0, zi_sub, zi_m1, Nat.add_sub_cancel, Nat.reduceMul, Nat.reduceSub]
  refine zC.of0 (zX10_isCorner hM hX.1 _) (by omega) (Nat.zero_le _) (Nat.zero_le _) ?_
  rintro _ _ ⟨rfl, rfl⟩
  refine sX10_safe_5 _ _ _ _ _ ?_
  simp (disch := omega) only [oAld, oCV, oIf, oIld, oPush, oRI, hM.1, List.getElem?_cons_zero, List.getElem?_cons_succ, List.set_cons_zero, List.set_cons_succ, List.drop_succ_cons, List.drop_zero, List.take_succ_cons, List.take_zero, List.length_cons, List.length_nil, List.reverse_cons, List.reverse_nil, List.nil_append, List.cons_append, Option.toList_some, Option.toList_none, va_rf_s, true_and, and_true, true_implies, false_implies, not_true_eq_false, not_false_eq_true, Nat.reduceAdd, Nat.reduceLeDiff, Nat.le_add_left, Nat.zero_le, Nat.le_refl, znew, true_or, or_true, b01_t, b01_f, b01_ok, bool_ft, vp_b01, vp_b0, vp_b1, b01_eq0, b01_eq1, implies_true, nI_add, nI_clamp, zi_in, zi_le_t, zi_le_f, zi_lt_t, zi_lt_f, zi_eq_t, zi_eq_f, nI_leI, nI_ltI, nI_eq, z_in, pk_mul, zu_same, zu_rw, zu_ix, zi_ne0, zi_sub, zi_m1, Nat.add_sub_cancel, Nat.reduceMul, Nat.reduceSub]
  refine ⟨fun hok => hVQ _ _ ⟨S, rfl, mE.rf hZ, by simp [safeR, hok]⟩, fun hok => ?_⟩
  have hok : okI f (tnc t) = true := by simpa using hok
  obtain ⟨j, hj, rfl⟩ := (okI_iff (by omega)).mp hok
  refine zC.of0 (zX10_litNow hM hQ) (by omega) (Nat.zero_le _) (Nat.zero_le _) ?_
  rintro _ _ ⟨S1, rfl, hE, -, rfl⟩
  refine sX10_safe_16 _ _ _ _ _ ?_
  simp (disch := omega) only [oCV, hM.1, List.getElem?_cons_zero, List.getElem?_cons_succ, List.set_cons_zero, List.set_cons_succ, List.drop_succ_cons, List.drop_zero, List.take_succ_cons, List.take_zero, List.length_cons, List.length_nil, List.reverse_cons, List.reverse_nil, List.nil_append, List.cons_append, Option.toList_some, Option.toList_none, va_rf_s, true_and, and_true, true_implies, false_implies, not_true_eq_false, not_false_eq_true, Nat.reduceAdd, Nat.reduceLeDiff, Nat.le_add_left, Nat.zero_le, Nat.le_refl, znew, true_or, or_true, b01_t, b01_f, b01_ok, bool_ft, vp_b01, vp_b0, vp_b1, b01_eq0, b01_eq1, implies_true, nI_add, nI_clamp, zi_in, zi_le_t, zi_le_f, zi_lt_t, zi_lt_f, zi_eq_t, zi_eq_f, nI_leI, nI_ltI, nI_eq, z_in, pk_mul, zu_same, zu_rw, zu_ix, zi_ne0, zi_sub, zi_m1, Nat.add_sub_cancel, Nat.reduceMul, Nat.reduceSub]
  refine zC.of0 (zX10_fillsLit hM (hQ.fr hE).1 (show j < 7 by omega) _) (by omega) (Nat.zero_le _) (Nat.zero_le _) ?_
  rintro _ _ ⟨rfl, S2, rfl, hf2, hg2⟩
  have hE2 := hE.q hf2 rfl rfl rfl
  obtain ⟨⟨hl, hlv⟩, ⟨hnc, -⟩, -⟩ := id (hQ.fr hE2).1.1
  generalize hp : (fun c => decide (farL t (litR t T) j c < 1000)) = p
  have loop : ∀ c, c ≤ tnc t → zW V YX10_safe 23 [some (.ref b), some (.int (nI j)), some (.int (setF p c)), some (.int (nI c))] [] (z, h, S2, L) 0 0 := by
    refine z_down ?_ (fun c hc ih => ?_)
    · refine sX10_safe_23 _ _ _ _ _ ?_
      simp (disch := omega) only [oAld, oAld1, oBin, oGI, oGR, oIfc, oIld, oInc, oIst, oNop, oPush, oRI, hM.1, hM.r23, hM.t23, hM.n23, hM.r63, hM.t63, hM.n63, hl, hnc, List.getElem?_cons_zero, List.getElem?_cons_succ, List.set_cons_zero, List.set_cons_succ, List.drop_succ_cons, List.drop_zero, List.take_succ_cons, List.take_zero, List.length_cons, List.length_nil, List.reverse_cons, List.reverse_nil, List.nil_append, List.cons_append, Option.toList_some, Option.toList_none, va_rf_s, true_and, and_true, true_implies, false_implies, not_true_eq_false, not_false_eq_true, Nat.reduceAdd, Nat.reduceLeDiff, Nat.le_add_left, Nat.zero_le, Nat.le_refl, znew, true_or, or_true, b01_t, b01_f, b01_ok, bool_ft, vp_b01, vp_b0, vp_b1, b01_eq0, b01_eq1, implies_true, nI_add, nI_clamp, zi_in, zi_le_t, zi_le_f, zi_lt_t, zi_lt_f, zi_eq_t, zi_eq_f, nI_leI, nI_ltI, nI_eq, z_in, pk_mul, zu_same, zu_rw, zu_ix, zi_ne0, zi_sub, zi_m1, Nat.add_sub_cancel, Nat.reduceMul, Nat.reduceSub]
      exact hVQ _ _ ⟨S2, rfl, hE2, by rw [safeR, if_pos hok, nI_clamp (by omega), hp]⟩
    · have hpc : p c = decide (farL t (litR t T) j c < 1000) := by rw [← hp]
      have e4 := hg2 c (by omega)
      have l4 : farL t (litR t T) j c ≤ 1000 := farM_le c
      refine sX10_safe_23 _ _ _ _ _ ?_
      simp (disch := omega) only [oAld, oAld1, oBin, oGI, oGR, oIfc, oIld, oInc, oIst, oNop, oPush, oRI, hM.1, hM.r23, hM.t23, hM.n23, hM.r63, hM.t63, hM.n63, hl, hnc, e4, List.getElem?_cons_zero, List.getElem?_cons_succ, List.set_cons_zero, List.set_cons_succ, List.drop_succ_cons, List.drop_zero, List.take_succ_cons, List.take_zero, List.length_cons, List.length_nil, List.reverse_cons, List.reverse_nil, List.nil_append, List.cons_append, Option.toList_some, Option.toList_none, va_rf_s, true_and, and_true, true_implies, false_implies, not_true_eq_false, not_false_eq_true, Nat.reduceAdd, Nat.reduceLeDiff, Nat.le_add_left, Nat.zero_le, Nat.le_refl, znew, true_or, or_true, b01_t, b01_f, b01_ok, bool_ft, vp_b01, vp_b0, vp_b1, b01_eq0, b01_eq1, implies_true, nI_add, nI_clamp, zi_in, zi_le_t, zi_le_f, zi_lt_t, zi_lt_f, zi_eq_t, zi_eq_f, nI_leI, nI_ltI, nI_eq, z_in, pk_mul, zu_same, zu_rw, zu_ix, zi_ne0, zi_sub, zi_m1, Nat.add_sub_cancel, Nat.reduceMul, Nat.reduceSub]
      refine ⟨fun h0 => ?_, fun h0 => ?_⟩
      · rw [setF_f (by rw [hpc, decide_eq_false (by omega)]; decide)] at ih; exact ih
      · rw [setF_t (by rw [hpc, decide_eq_true (by omega)])] at ih; exact ih
  refine sX10_safe_19 _ _ _ _ _ ?_
  simp (disch := omega) only [oIst, oPush, List.getElem?_cons_zero, List.getElem?_cons_succ, List.set_cons_zero, List.set_cons_succ, List.drop_succ_cons, List.drop_zero, List.take_succ_cons, List.take_zero, List.length_cons, List.length_nil, List.reverse_cons, List.reverse_nil, List.nil_append, List.cons_append, Option.toList_some, Option.toList_none, va_rf_s, true_and, and_true, true_implies, false_implies, not_true_eq_false, not_false_eq_true, Nat.reduceAdd, Nat.reduceLeDiff, Nat.le_add_left, Nat.zero_le, Nat.le_refl, znew, true_or, or_true, b01_t, b01_f, b01_ok, bool_ft, vp_b01, vp_b0, vp_b1, b01_eq0, b01_eq1, implies_true, nI_add, nI_clamp, zi_in, zi_le_t, zi_le_f, zi_lt_t, zi_lt_f, zi_eq_t, zi_eq_f, nI_leI, nI_ltI, nI_eq, z_in, pk_mul, zu_same, zu_rw, zu_ix, zi_ne0, zi_sub, zi_m1, Nat.add_sub_cancel, Nat.reduceMul, Nat.reduceSub]
  exact loop 0 (by omega)
theorem zX10_bridges (hM : isM h b) (hQ : mQ b S lv t T) :
    zM l E 3 YX10_bridges [.ref b] (z, h, S, L) 0 0 (fun r X => ∃ S', X = (z, h, S', L) ∧ mE b S S' ∧ r = some (.int (bridgesR t T))) (fun _ _ => False) := by
  have hns10 : tns t ≤ 10 := hQ.1.1.2.2.1.2
  have hnc7 : tnc t ≤ 7 := hQ.1.1.2.1.2
  refine zM.go rfl rfl (Nat.le_of_ble_eq_true rfl) (ls := [some (.ref b), none, none, none]) rfl ?_
  intro V hVl hVE hVd hVc hVs hVQ hVX
  refine sX10_bridges_0 _ _ _ _ _ ?_
  simp (disch := omega) only [oAld, oCV, hM.1, List.getElem?_cons_zero, List.getElem?_cons_succ, List.set_cons_zero, List.set_cons_succ, List.drop_succ_cons, List.drop_zero, List.take_succ_cons, List.take_zero, List.length_cons, List.length_nil, List.reverse_cons, List.reverse_nil, List.nil_append, List.cons_append, Option.toList_some, Option.toList_none, va_rf_s, true_and, and_true, true_implies, false_implies, not_true_eq_false, not_false_eq_true, Nat.reduceAdd, Nat.reduceLeDiff, Nat.le_add_left, Nat.zero_le, Nat.le_refl, znew, true_or, or_true, b01_t, b01_f, b01_ok, bool_ft, vp_b01, vp_b0, vp_b1, b01_eq0, b01_eq1, implies_true, nI_add, nI_clamp, zi_in, zi_le_t, zi_le_f, zi_lt_t, zi_lt_f, zi_eq_t, zi_eq_f, nI_leI, nI_ltI, nI_eq, z_in, pk_mul, zu_same, zu_rw, zu_ix, zi_ne0, zi_sub, zi_m1, Nat.add_sub_cancel, Nat.reduceMul, Nat.reduceSub]
  refine zC.of0 (zX10_litNow hM hQ) (by omega) (Nat.zero_le _) (Nat.zero_le _) ?_
  rintro _ _ ⟨S1, rfl, hE1, -, rfl⟩
  have hR : bridgesR t T = setF (brB t (litR t T)) (tns t) := rfl
  generalize litR t T = lit at hR
  have loop : ∀ s, s ≤ tns t → ∀ S', mE b S S' → zW V YX10_bridges 9 [some (.ref b), some (.int lit), some (.int (setF (brB t lit) s)), some (.int (nI s))] [] (z, h, S', L) 0 0 := by
    refine z_down ?_ (fun s hs ih => ?_)
    · intro S' hE
      obtain ⟨⟨hl, hlv⟩, -, ⟨hns, -⟩, -⟩ := id (hQ.fr hE).1.1
      refine sX10_bridges_9 _ _ _ _ _ ?_
      simp (disch := omega) only [oAld, oAld1, oBin, oCV, oGI, oGR, oIf, oIfc, oIld, oInc, oNop, oPush, oRI, hM.1, hM.r24, hM.t24, hM.n24, hM.r25, hM.t25, hM.n25, hl, hns, List.getElem?_cons_zero, List.getElem?_cons_succ, List.set_cons_zero, List.set_cons_succ, List.drop_succ_cons, List.drop_zero, List.take_succ_cons, List.take_zero, List.length_cons, List.length_nil, List.reverse_cons, List.reverse_nil, List.nil_append, List.cons_append, Option.toList_some, Option.toList_none, va_rf_s, true_and, and_true, true_implies, false_implies, not_true_eq_false, not_false_eq_true, Nat.reduceAdd, Nat.reduceLeDiff, Nat.le_add_left, Nat.zero_le, Nat.le_refl, znew, true_or, or_true, b01_t, b01_f, b01_ok, bool_ft, vp_b01, vp_b0, vp_b1, b01_eq0, b01_eq1, implies_true, nI_add, nI_clamp, zi_in, zi_le_t, zi_le_f, zi_lt_t, zi_lt_f, zi_eq_t, zi_eq_f, nI_leI, nI_ltI, nI_eq, z_in, pk_mul, zu_same, zu_rw, zu_ix, zi_ne0, zi_sub, zi_m1, Nat.add_sub_cancel, Nat.reduceMul, Nat.reduceSub]
      exact hVQ _ _ ⟨S', rfl, hE, by rw [hR]⟩
    · intro S' hE
      have hX' := (hQ.fr hE).1
      obtain ⟨⟨hl, hlv⟩, -, ⟨hns, -⟩, -⟩ := id hX'.1
      obtain ⟨⟨h1, h1'⟩, ⟨h2, h2'⟩, h12⟩ := hX'.2.1 s hs
      refine sX10_bridges_9 _ _ _ _ _ ?_
      simp (disch := omega) only [oAld, oAld1, oBin, oCV, oGI, oGR, oIf, oIfc, oIld, oInc, oNop, oPush, oRI, hM.1, hM.r24, hM.t24, hM.n24, hM.r25, hM.t25, hM.n25, hl, hns, h1, b_one0, List.getElem?_cons_zero, List.getElem?_cons_succ, List.set_cons_zero, List.set_cons_succ, List.drop_succ_cons, List.drop_zero, List.take_succ_cons, List.take_zero, List.length_cons, List.length_nil, List.reverse_cons, List.reverse_nil, List.nil_append, List.cons_append, Option.toList_some, Option.toList_none, va_rf_s, true_and, and_true, true_implies, false_implies, not_true_eq_false, not_false_eq_true, Nat.reduceAdd, Nat.reduceLeDiff, Nat.le_add_left, Nat.zero_le, Nat.le_refl, znew, true_or, or_true, b01_t, b01_f, b01_ok, bool_ft, vp_b01, vp_b0, vp_b1, b01_eq0, b01_eq1, implies_true, nI_add, nI_clamp, zi_in, zi_le_t, zi_le_f, zi_lt_t, zi_lt_f, zi_eq_t, zi_eq_f, nI_leI, nI_ltI, nI_eq, z_in, pk_mul, zu_same, zu_rw, zu_ix, zi_ne0, zi_sub, zi_m1, Nat.add_sub_cancel, Nat.reduceMul, Nat.reduceSub]
      refine ⟨fun h0 => ?_, fun h0 => ?_⟩
      · have ih := ih S' hE
        rw [setF_f (by rw [brB, h0, Bool.false_and]; decide)] at ih; exact ih
      · refine zC.of0 (zX10_fillsLit hM hX' (show tone t s < 7 by omega) _) (by omega) (Nat.zero_le _) (Nat.zero_le _) ?_
        rintro _ _ ⟨rfl, S2, rfl, hf2, hg2⟩
        have hE2 := hE.q hf2 rfl rfl rfl
        have e4 := hg2 (toth t s) (by omega)
        have ih := ih S2 hE2
        have hb : bt lit s = true := by simpa using h0
        have hbb : brB t lit s = decide (¬ farL t (lit &&& (bitF s ^^^ (-1))) (tone t s) (toth t s) < 1000) := by rw [brB, hb, Bool.true_and]
        have hfe : farL t (lit &&& (nI 1 <<< (nI s &&& 31) ^^^ (-1))) (tone t s) (toth t s) = farL t (lit &&& (bitF s ^^^ (-1))) (tone t s) (toth t s) := rfl
        rw [hfe] at e4
        have l4 : farL t (lit &&& (bitF s ^^^ (-1))) (tone t s) (toth t s) ≤ 1000 := farM_le _
        have f1 := (hf2.f (j := 18) rfl).trans hl
        have f2 : S2 (b + 13) (10 * lv + s) = nI (toth t s) := by rw [hf2.at (o := 13) rfl rfl]; exact h2
        refine sX10_bridges_58 _ _ _ _ _ ?_
        simp (disch := omega) only [oAld, oAld1, oBin, oGI, oGR, oIfc, oIld, oInc, oIst, oNop, oPush, hM.1, hM.r63, hM.t63, hM.n63, hM.r26, hM.t26, hM.n26, f1, f2, e4, List.getElem?_cons_zero, List.getElem?_cons_succ, List.set_cons_zero, List.set_cons_succ, List.drop_succ_cons, List.drop_zero, List.take_succ_cons, List.take_zero, List.length_cons, List.length_nil, List.reverse_cons, List.reverse_nil, List.nil_append, List.cons_append, Option.toList_some, Option.toList_none, va_rf_s, true_and, and_true, true_implies, false_implies, not_true_eq_false, not_false_eq_true, Nat.reduceAdd, Nat.reduceLeDiff, Nat.le_add_left, Nat.zero_le, Nat.le_refl, znew, true_or, or_true, b01_t, b01_f, b01_ok, bool_ft, vp_b01, vp_b0, vp_b1, b01_eq0, b01_eq1, implies_true, nI_add, nI_clamp, zi_in, zi_le_t, zi_le_f, zi_lt_t, zi_lt_f, zi_eq_t, zi_eq_f, nI_leI, nI_ltI, nI_eq, z_in, pk_mul, zu_same, zu_rw, zu_ix, zi_ne0, zi_sub, zi_m1, Nat.add_sub_cancel, Nat.reduceMul, Nat.reduceSub]
        refine ⟨fun h0 => ?_, fun h0 => ?_⟩
        · rw [setF_f (by rw [hbb, decide_eq_false (fun q => q h0)]; decide)] at ih; exact ih
        · rw [setF_t (by rw [hbb, decide_eq_true h0])] at ih; exact ih
  refine sX10_bridges_4 _ _ _ _ _ ?_
  simp (disch := omega) only [oIst, oPush, List.getElem?_cons_zero, List.getElem?_cons_succ, List.set_cons_zero, List.set_cons_succ, List.drop_succ_cons, List.drop_zero, List.take_succ_cons, List.take_zero, List.length_cons, List.length_nil, List.reverse_cons, List.reverse_nil, List.nil_append, List.cons_append, Option.toList_some, Option.toList_none, va_rf_s, true_and, and_true, true_implies, false_implies, not_true_eq_false, not_false_eq_true, Nat.reduceAdd, Nat.reduceLeDiff, Nat.le_add_left, Nat.zero_le, Nat.le_refl, znew, true_or, or_true, b01_t, b01_f, b01_ok, bool_ft, vp_b01, vp_b0, vp_b1, b01_eq0, b01_eq1, implies_true, nI_add, nI_clamp, zi_in, zi_le_t, zi_le_f, zi_lt_t, zi_lt_f, zi_eq_t, zi_eq_f, nI_leI, nI_ltI, nI_eq, z_in, pk_mul, zu_same, zu_rw, zu_ix, zi_ne0, zi_sub, zi_m1, Nat.add_sub_cancel, Nat.reduceMul, Nat.reduceSub]
  exact loop 0 (by omega) S1 hE1
theorem zX10_cut (hM : isM h b) (hQ : mQ b S lv t T) (f to : Int32) :
    zM l E 3 YX10_cut [.ref b, .int f, .int to] (z, h, S, L) 0 0 (fun r X => ∃ S', X = (z, h, S', L) ∧ mE b S S' ∧ r = some (.int (cutR t T f to))) (fun _ _ => False) := by
  obtain ⟨hX, hZ, hN⟩ := id hQ
  have hnc7 : tnc t ≤ 7 := hX.1.2.1.2
  refine zM.go rfl rfl (Nat.le_of_ble_eq_true rfl) (ls := [some (.ref b), some (.int f), some (.int to), none, none, none]) rfl ?_
  intro V hVl hVE hVd hVc hVs hVQ hVX
  refine sX10_cut_0 _ _ _ _ _ ?_
  simp (disch := omega) only [oAld, oCV, oIld, hM.1, List.getElem?_cons_zero, List.getElem?_cons_succ, List.set_cons_zero, List.set_cons_succ, List.drop_succ_cons, List.drop_zero, List.take_succ_cons, List.take_zero, List.length_cons, List.length_nil, List.reverse_cons, List.reverse_nil, List.nil_append, List.cons_append, Option.toList_some, Option.toList_none, va_rf_s, true_and, and_true, true_implies, false_implies, not_true_eq_false, not_false_eq_true, Nat.reduceAdd, Nat.reduceLeDiff, Nat.le_add_left, Nat.zero_le, Nat.le_refl, znew, true_or, or_true, b01_t, b01_f, b01_ok, bool_ft, vp_b01, vp_b0, vp_b1, b01_eq0, b01_eq1, implies_true, nI_add, nI_clamp, zi_in, zi_le_t, zi_le_f, zi_lt_t, zi_lt_f, zi_eq_t, zi_eq_f, nI_leI, nI_ltI, nI_eq, z_in, pk_mul, zu_same, zu_rw, zu_ix, zi_ne0, zi_sub, zi_m1, Nat.add_sub_cancel, Nat.reduceMul, Nat.reduceSub]
  refine zC.of0 (zX10_isCorner hM hX.1 _) (by omega) (Nat.zero_le _) (Nat.zero_le _) ?_
  rintro _ _ ⟨rfl, rfl⟩
  refine sX10_cut_5 _ _ _ _ _ ?_
  simp (disch := omega) only [oAld, oCV, oIf, oIld, oPush, oRI, hM.1, List.getElem?_cons_zero, List.getElem?_cons_succ, List.set_cons_zero, List.set_cons_succ, List.drop_succ_cons, List.drop_zero, List.take_succ_cons, List.take_zero, List.length_cons, List.length_nil, List.reverse_cons, List.reverse_nil, List.nil_append, List.cons_append, Option.toList_some, Option.toList_none, va_rf_s, true_and, and_true, true_implies, false_implies, not_true_eq_false, not_false_eq_true, Nat.reduceAdd, Nat.reduceLeDiff, Nat.le_add_left, Nat.zero_le, Nat.le_refl, znew, true_or, or_true, b01_t, b01_f, b01_ok, bool_ft, vp_b01, vp_b0, vp_b1, b01_eq0, b01_eq1, implies_true, nI_add, nI_clamp, zi_in, zi_le_t, zi_le_f, zi_lt_t, zi_lt_f, zi_eq_t, zi_eq_f, nI_leI, nI_ltI, nI_eq, z_in, pk_mul, zu_same, zu_rw, zu_ix, zi_ne0, zi_sub, zi_m1, Nat.add_sub_cancel, Nat.reduceMul, Nat.reduceSub]
  refine ⟨fun hok => hVQ _ _ ⟨S, rfl, mE.rf hZ, by simp [cutR, hok]⟩, fun hok => ?_⟩
  have hok : okI f (tnc t) = true := by simpa using hok
  obtain ⟨j, hj, rfl⟩ := (okI_iff (by omega)).mp hok
  refine zC.of0 (zX10_isCorner hM hX.1 _) (by omega) (Nat.zero_le _) (Nat.zero_le _) ?_
  rintro _ _ ⟨rfl, rfl⟩
  refine sX10_cut_13 _ _ _ _ _ ?_
  simp (disch := omega) only [oAld, oCV, oIf, oIfc, oIld, oPush, oRI, hM.1, List.getElem?_cons_zero, List.getElem?_cons_succ, List.set_cons_zero, List.set_cons_succ, List.drop_succ_cons, List.drop_zero, List.take_succ_cons, List.take_zero, List.length_cons, List.length_nil, List.reverse_cons, List.reverse_nil, List.nil_append, List.cons_append, Option.toList_some, Option.toList_none, va_rf_s, true_and, and_true, true_implies, false_implies, not_true_eq_false, not_false_eq_true, Nat.reduceAdd, Nat.reduceLeDiff, Nat.le_add_left, Nat.zero_le, Nat.le_refl, znew, true_or, or_true, b01_t, b01_f, b01_ok, bool_ft, vp_b01, vp_b0, vp_b1, b01_eq0, b01_eq1, implies_true, nI_add, nI_clamp, zi_in, zi_le_t, zi_le_f, zi_lt_t, zi_lt_f, zi_eq_t, zi_eq_f, nI_leI, nI_ltI, nI_eq, z_in, pk_mul, zu_same, zu_rw, zu_ix, zi_ne0, zi_sub, zi_m1, Nat.add_sub_cancel, Nat.reduceMul, Nat.reduceSub]
  refine ⟨fun hok2 => hVQ _ _ ⟨S, rfl, mE.rf hZ, by simp [cutR, hok2]⟩, fun hok2 => ?_⟩
  have hok2 : okI to (tnc t) = true := by simpa using hok2
  obtain ⟨i, hi, rfl⟩ := (okI_iff (by omega)).mp hok2
  rw [nI_eq (by omega) (by omega)]
  refine ⟨fun he => hVQ _ _ ⟨S, rfl, mE.rf hZ, by rw [cutR, if_neg (fun q => q.2.2 (by rw [he]))]⟩, fun he => ?_⟩
  refine zC.of0 (zX10_litNow hM hQ) (by omega) (Nat.zero_le _) (Nat.zero_le _) ?_
  rintro _ _ ⟨S1, rfl, hE1, -, rfl⟩
  have hR : cutR t T (nI j) (nI i) = cutF t (litR t T) j i 1024 := by rw [cutR, if_pos ⟨hok, hok2, fun q => he ((nI_eq (by omega) (by omega)).mp q)⟩, nI_clamp (by omega), nI_clamp (by omega)]
  generalize litR t T = lit at hR
  have loop : ∀ d, d ≤ 1024 → ∀ S', mE b S S' → zW V YX10_cut 35 [some (.ref b), some (.int (nI j)), some (.int (nI i)), some (.int lit), some (.int (cutF t lit j i d)), some (.int (nI d))] [] (z, h, S', L) 0 0 := by
    refine z_down ?_ (fun d hd ih => ?_)
    · intro S' hE
      refine sX10_cut_35 _ _ _ _ _ ?_
      simp (disch := omega) only [oBin, oCS, oIf, oIfc, oIld, oInc, oNop, oPush, oRI, List.getElem?_cons_zero, List.getElem?_cons_succ, List.set_cons_zero, List.set_cons_succ, List.drop_succ_cons, List.drop_zero, List.take_succ_cons, List.take_zero, List.length_cons, List.length_nil, List.reverse_cons, List.reverse_nil, List.nil_append, List.cons_append, Option.toList_some, Option.toList_none, va_rf_s, true_and, and_true, true_implies, false_implies, not_true_eq_false, not_false_eq_true, Nat.reduceAdd, Nat.reduceLeDiff, Nat.le_add_left, Nat.zero_le, Nat.le_refl, znew, true_or, or_true, b01_t, b01_f, b01_ok, bool_ft, vp_b01, vp_b0, vp_b1, b01_eq0, b01_eq1, implies_true, nI_add, nI_clamp, zi_in, zi_le_t, zi_le_f, zi_lt_t, zi_lt_f, zi_eq_t, zi_eq_f, nI_leI, nI_ltI, nI_eq, z_in, pk_mul, zu_same, zu_rw, zu_ix, zi_ne0, zi_sub, zi_m1, Nat.add_sub_cancel, Nat.reduceMul, Nat.reduceSub]
      exact hVQ _ _ ⟨S', rfl, hE, by rw [hR]⟩
    · intro S' hE
      have hst : cutF t lit j i (d + 1) = if cutP t lit j i d ∧ bitsF 10 (nI d) < cutF t lit j i d then bitsF 10 (nI d) else cutF t lit j i d := rfl
      rw [hst] at ih
      have no : ¬ (cutP t lit j i d ∧ bitsF 10 (nI d) < cutF t lit j i d) → ∀ S', mE b S S' → zW V YX10_cut 35 [some (.ref b), some (.int (nI j)), some (.int (nI i)), some (.int lit), some (.int (cutF t lit j i d)), some (.int (nI (d + 1)))] [] (z, h, S', L) 0 0 := by
        intro hn S' hE
        have ih := ih S' hE
        rw [if_neg hn] at ih; exact ih
      refine sX10_cut_35 _ _ _ _ _ ?_
      simp (disch := omega) only [oBin, oCS, oIf, oIfc, oIld, oInc, oNop, oPush, oRI, List.getElem?_cons_zero, List.getElem?_cons_succ, List.set_cons_zero, List.set_cons_succ, List.drop_succ_cons, List.drop_zero, List.take_succ_cons, List.take_zero, List.length_cons, List.length_nil, List.reverse_cons, List.reverse_nil, List.nil_append, List.cons_append, Option.toList_some, Option.toList_none, va_rf_s, true_and, and_true, true_implies, false_implies, not_true_eq_false, not_false_eq_true, Nat.reduceAdd, Nat.reduceLeDiff, Nat.le_add_left, Nat.zero_le, Nat.le_refl, znew, true_or, or_true, b01_t, b01_f, b01_ok, bool_ft, vp_b01, vp_b0, vp_b1, b01_eq0, b01_eq1, implies_true, nI_add, nI_clamp, zi_in, zi_le_t, zi_le_f, zi_lt_t, zi_lt_f, zi_eq_t, zi_eq_f, nI_leI, nI_ltI, nI_eq, z_in, pk_mul, zu_same, zu_rw, zu_ix, zi_ne0, zi_sub, zi_m1, Nat.add_sub_cancel, Nat.reduceMul, Nat.reduceSub]
      refine ⟨fun h0 => ?_, fun h0 => no (fun q => h0 q.1.1) S' hE⟩
      refine zC.of0 (zX10_bits _ _) (by omega) (Nat.zero_le _) (Nat.zero_le _) ?_
      rintro _ _ ⟨rfl, rfl⟩
      refine sX10_cut_57 _ _ _ _ _ ?_
      simp (disch := omega) only [oAld, oBin, oCV, oIfc, oIld, oInc, oNop, oPush, hM.1, List.getElem?_cons_zero, List.getElem?_cons_succ, List.set_cons_zero, List.set_cons_succ, List.drop_succ_cons, List.drop_zero, List.take_succ_cons, List.take_zero, List.length_cons, List.length_nil, List.reverse_cons, List.reverse_nil, List.nil_append, List.cons_append, Option.toList_some, Option.toList_none, va_rf_s, true_and, and_true, true_implies, false_implies, not_true_eq_false, not_false_eq_true, Nat.reduceAdd, Nat.reduceLeDiff, Nat.le_add_left, Nat.zero_le, Nat.le_refl, znew, true_or, or_true, b01_t, b01_f, b01_ok, bool_ft, vp_b01, vp_b0, vp_b1, b01_eq0, b01_eq1, implies_true, nI_add, nI_clamp, zi_in, zi_le_t, zi_le_f, zi_lt_t, zi_lt_f, zi_eq_t, zi_eq_f, nI_leI, nI_ltI, nI_eq, z_in, pk_mul, zu_same, zu_rw, zu_ix, zi_ne0, zi_sub, zi_m1, Nat.add_sub_cancel, Nat.reduceMul, Nat.reduceSub]
      refine ⟨fun h1 => ?_, fun h1 => no (fun q => h1 q.2) S' hE⟩
      refine zC.of0 (zX10_fillsLit hM (hQ.fr hE).1 (show j < 7 by omega) _) (by omega) (Nat.zero_le _) (Nat.zero_le _) ?_
      rintro _ _ ⟨rfl, S2, rfl, hf2, hg2⟩
      have hE2 := hE.q hf2 rfl rfl rfl
      have e4 := hg2 i (by omega)
      have l4 : farL t (lit &&& (nI d ^^^ (-1))) j i ≤ 1000 := farM_le _
      refine sX10_cut_76 _ _ _ _ _ ?_
      simp (disch := omega) only [oAld, oAld1, oCS, oGR, oIfc, oIld, oInc, oNop, oPush, hM.1, hM.r63, hM.t63, hM.n63, e4, List.getElem?_cons_zero, List.getElem?_cons_succ, List.set_cons_zero, List.set_cons_succ, List.drop_succ_cons, List.drop_zero, List.take_succ_cons, List.take_zero, List.length_cons, List.length_nil, List.reverse_cons, List.reverse_nil, List.nil_append, List.cons_append, Option.toList_some, Option.toList_none, va_rf_s, true_and, and_true, true_implies, false_implies, not_true_eq_false, not_false_eq_true, Nat.reduceAdd, Nat.reduceLeDiff, Nat.le_add_left, Nat.zero_le, Nat.le_refl, znew, true_or, or_true, b01_t, b01_f, b01_ok, bool_ft, vp_b01, vp_b0, vp_b1, b01_eq0, b01_eq1, implies_true, nI_add, nI_clamp, zi_in, zi_le_t, zi_le_f, zi_lt_t, zi_lt_f, zi_eq_t, zi_eq_f, nI_leI, nI_ltI, nI_eq, z_in, pk_mul, zu_same, zu_rw, zu_ix, zi_ne0, zi_sub, zi_m1, Nat.add_sub_cancel, Nat.reduceMul, Nat.reduceSub]
      refine ⟨fun h2 => no (fun q => q.1.2 h2) S2 hE2, fun h2 => ?_⟩
      refine zC.of0 (zX10_bits _ _) (by omega) (Nat.zero_le _) (Nat.zero_le _) ?_
      rintro _ _ ⟨rfl, rfl⟩
      have ih := ih S2 hE2
      rw [if_pos ⟨⟨h0, h2⟩, h1⟩] at ih
      refine sX10_cut_93 _ _ _ _ _ ?_
      simp (disch := omega) only [oInc, oIst, oNop, List.getElem?_cons_zero, List.getElem?_cons_succ, List.set_cons_zero, List.set_cons_succ, List.drop_succ_cons, List.drop_zero, List.take_succ_cons, List.take_zero, List.length_cons, List.length_nil, List.reverse_cons, List.reverse_nil, List.nil_append, List.cons_append, Option.toList_some, Option.toList_none, va_rf_s, true_and, and_true, true_implies, false_implies, not_true_eq_false, not_false_eq_true, Nat.reduceAdd, Nat.reduceLeDiff, Nat.le_add_left, Nat.zero_le, Nat.le_refl, znew, true_or, or_true, b01_t, b01_f, b01_ok, bool_ft, vp_b01, vp_b0, vp_b1, b01_eq0, b01_eq1, implies_true, nI_add, nI_clamp, zi_in, zi_le_t, zi_le_f, zi_lt_t, zi_lt_f, zi_eq_t, zi_eq_f, nI_leI, nI_ltI, nI_eq, z_in, pk_mul, zu_same, zu_rw, zu_ix, zi_ne0, zi_sub, zi_m1, Nat.add_sub_cancel, Nat.reduceMul, Nat.reduceSub]
      exact ih
  refine sX10_cut_27 _ _ _ _ _ ?_
  simp (disch := omega) only [oIst, oPush, List.getElem?_cons_zero, List.getElem?_cons_succ, List.set_cons_zero, List.set_cons_succ, List.drop_succ_cons, List.drop_zero, List.take_succ_cons, List.take_zero, List.length_cons, List.length_nil, List.reverse_cons, List.reverse_nil, List.nil_append, List.cons_append, Option.toList_some, Option.toList_none, va_rf_s, true_and, and_true, true_implies, false_implies, not_true_eq_false, not_false_eq_true, Nat.reduceAdd, Nat.reduceLeDiff, Nat.le_add_left, Nat.zero_le, Nat.le_refl, znew, true_or, or_true, b01_t, b01_f, b01_ok, bool_ft, vp_b01, vp_b0, vp_b1, b01_eq0, b01_eq1, implies_true, nI_add, nI_clamp, zi_in, zi_le_t, zi_le_f, zi_lt_t, zi_lt_f, zi_eq_t, zi_eq_f, nI_leI, nI_ltI, nI_eq, z_in, pk_mul, zu_same, zu_rw, zu_ix, zi_ne0, zi_sub, zi_m1, Nat.add_sub_cancel, Nat.reduceMul, Nat.reduceSub]
  exact loop 0 (by omega) S1 hE1
theorem zX10_gather (hM : isM h b) (hQ : mQ b S lv t T) {at' : Nat → Nat} (hC : rowC t T at') (what : Int32) :
    zM l E 1 YX10_gather [.ref b, .int what] (z, h, S, L) 0 0 (fun r X => ∃ S', X = (z, h, S', L) ∧ mE b S S' ∧ r = some (.int (gatherR t T at' what))) (fun _ _ => False) := by
  have hZ := hQ.2.1
  have hnc7 : tnc t ≤ 7 := hQ.1.1.2.1.2
  refine zM.go rfl rfl (Nat.le_of_ble_eq_true rfl) (ls := [some (.ref b), some (.int what), none, none, none, none, none]) rfl ?_
  intro V hVl hVE hVd hVc hVs hVQ hVX
  refine sX10_gather_0 _ _ _ _ _ ?_
  simp (disch := omega) only [oCS, oIld, oPush, List.getElem?_cons_zero, List.getElem?_cons_succ, List.set_cons_zero, List.set_cons_succ, List.drop_succ_cons, List.drop_zero, List.take_succ_cons, List.take_zero, List.length_cons, List.length_nil, List.reverse_cons, List.reverse_nil, List.nil_append, List.cons_append, Option.toList_some, Option.toList_none, va_rf_s, true_and, and_true, true_implies, false_implies, not_true_eq_false, not_false_eq_true, Nat.reduceAdd, Nat.reduceLeDiff, Nat.le_add_left, Nat.zero_le, Nat.le_refl, znew, true_or, or_true, b01_t, b01_f, b01_ok, bool_ft, vp_b01, vp_b0, vp_b1, b01_eq0, b01_eq1, implies_true, nI_add, nI_clamp, zi_in, zi_le_t, zi_le_f, zi_lt_t, zi_lt_f, zi_eq_t, zi_eq_f, nI_leI, nI_ltI, nI_eq, z_in, pk_mul, zu_same, zu_rw, zu_ix, zi_ne0, zi_sub, zi_m1, Nat.add_sub_cancel, Nat.reduceMul, Nat.reduceSub]
  refine zC.of0 (zX10_in _ _ _ _) (by omega) (Nat.zero_le _) (Nat.zero_le _) ?_
  rintro _ _ ⟨rfl, rfl⟩
  rw [okI_dec2 (by omega)]
  cases hw : okI what (1 + 1) with
  | false =>
    refine sX10_gather_6 _ _ _ _ _ ?_
    simp (disch := omega) only [oAld, oCV, oIf, oPush, oRI, hM.1, List.getElem?_cons_zero, List.getElem?_cons_succ, List.set_cons_zero, List.set_cons_succ, List.drop_succ_cons, List.drop_zero, List.take_succ_cons, List.take_zero, List.length_cons, List.length_nil, List.reverse_cons, List.reverse_nil, List.nil_append, List.cons_append, Option.toList_some, Option.toList_none, va_rf_s, true_and, and_true, true_implies, false_implies, not_true_eq_false, not_false_eq_true, Nat.reduceAdd, Nat.reduceLeDiff, Nat.le_add_left, Nat.zero_le, Nat.le_refl, znew, true_or, or_true, b01_t, b01_f, b01_ok, bool_ft, vp_b01, vp_b0, vp_b1, b01_eq0, b01_eq1, implies_true, nI_add, nI_clamp, zi_in, zi_le_t, zi_le_f, zi_lt_t, zi_lt_f, zi_eq_t, zi_eq_f, nI_leI, nI_ltI, nI_eq, z_in, pk_mul, zu_same, zu_rw, zu_ix, zi_ne0, zi_sub, zi_m1, Nat.add_sub_cancel, Nat.reduceMul, Nat.reduceSub]
    exact hVQ _ _ ⟨S, rfl, mE.rf hZ, by simp [gatherR, hw]⟩
  | true =>
    refine sX10_gather_6 _ _ _ _ _ ?_
    simp (disch := omega) only [oAld, oCV, oIf, oPush, oRI, hM.1, List.getElem?_cons_zero, List.getElem?_cons_succ, List.set_cons_zero, List.set_cons_succ, List.drop_succ_cons, List.drop_zero, List.take_succ_cons, List.take_zero, List.length_cons, List.length_nil, List.reverse_cons, List.reverse_nil, List.nil_append, List.cons_append, Option.toList_some, Option.toList_none, va_rf_s, true_and, and_true, true_implies, false_implies, not_true_eq_false, not_false_eq_true, Nat.reduceAdd, Nat.reduceLeDiff, Nat.le_add_left, Nat.zero_le, Nat.le_refl, znew, true_or, or_true, b01_t, b01_f, b01_ok, bool_ft, vp_b01, vp_b0, vp_b1, b01_eq0, b01_eq1, implies_true, nI_add, nI_clamp, zi_in, zi_le_t, zi_le_f, zi_lt_t, zi_lt_f, zi_eq_t, zi_eq_f, nI_leI, nI_ltI, nI_eq, z_in, pk_mul, zu_same, zu_rw, zu_ix, zi_ne0, zi_sub, zi_m1, Nat.add_sub_cancel, Nat.reduceMul, Nat.reduceSub]
    refine zC.of0 (zG_copies hM hQ) (by omega) (Nat.zero_le _) (Nat.zero_le _) ?_
    rintro _ _ ⟨rfl, S1, rfl, hE1, hX1, hr1, hN, -, -⟩
    have loop : ∀ c, c ≤ tnc t → ∀ S' x5 x6, mE b S S' → S' (b + 37) = T → zW V YX10_gather 25 [some (.ref b), some (.int what), some (.int (an1 (gaO t T at' c))), some (.int (nI (an2 (gaO t T at' c)))), some (.int (nI c)), x5, x6] [] (z, h, S', L) 0 0 := by
      refine z_down ?_ (fun c hc ih => ?_)
      · intro S' x5 x6 hE hr
        obtain ⟨⟨hl, hlv⟩, ⟨hnc, -⟩, -⟩ := id (hQ.fr hE).1.1
        have hB := gaO_B (t := t) (T := T) (at' := at') (n := tnc t)
        cases ha : gaO t T at' (tnc t) with
        | none =>
          rw [show an1 none = -2 from rfl]
          refine sX10_gather_25 _ _ _ _ _ ?_
          simp (disch := omega) only [oAld, oAld1, oCV, oGI, oGR, oIf, oIfc, oIld, oNop, oPush, oRI, hM.1, hM.r23, hM.t23, hM.n23, hl, hnc, m2lt, List.getElem?_cons_zero, List.getElem?_cons_succ, List.set_cons_zero, List.set_cons_succ, List.drop_succ_cons, List.drop_zero, List.take_succ_cons, List.take_zero, List.length_cons, List.length_nil, List.reverse_cons, List.reverse_nil, List.nil_append, List.cons_append, Option.toList_some, Option.toList_none, va_rf_s, true_and, and_true, true_implies, false_implies, not_true_eq_false, not_false_eq_true, Nat.reduceAdd, Nat.reduceLeDiff, Nat.le_add_left, Nat.zero_le, Nat.le_refl, znew, true_or, or_true, b01_t, b01_f, b01_ok, bool_ft, vp_b01, vp_b0, vp_b1, b01_eq0, b01_eq1, implies_true, nI_add, nI_clamp, zi_in, zi_le_t, zi_le_f, zi_lt_t, zi_lt_f, zi_eq_t, zi_eq_f, nI_leI, nI_ltI, nI_eq, z_in, pk_mul, zu_same, zu_rw, zu_ix, zi_ne0, zi_sub, zi_m1, Nat.add_sub_cancel, Nat.reduceMul, Nat.reduceSub]
          exact hVQ _ _ ⟨S', rfl, hE, by rw [gatherR, if_pos hw, ha]⟩
        | some q =>
          have hq := hB.2 q.1 q.2 ha
          rw [show an1 (some q) = nI q.1 from rfl]
          refine sX10_gather_25 _ _ _ _ _ ?_
          simp (disch := omega) only [oAld, oAld1, oCV, oGI, oGR, oIf, oIfc, oIld, oNop, oPush, oRI, hM.1, hM.r23, hM.t23, hM.n23, hl, hnc, List.getElem?_cons_zero, List.getElem?_cons_succ, List.set_cons_zero, List.set_cons_succ, List.drop_succ_cons, List.drop_zero, List.take_succ_cons, List.take_zero, List.length_cons, List.length_nil, List.reverse_cons, List.reverse_nil, List.nil_append, List.cons_append, Option.toList_some, Option.toList_none, va_rf_s, true_and, and_true, true_implies, false_implies, not_true_eq_false, not_false_eq_true, Nat.reduceAdd, Nat.reduceLeDiff, Nat.le_add_left, Nat.zero_le, Nat.le_refl, znew, true_or, or_true, b01_t, b01_f, b01_ok, bool_ft, vp_b01, vp_b0, vp_b1, b01_eq0, b01_eq1, implies_true, nI_add, nI_clamp, zi_in, zi_le_t, zi_le_f, zi_lt_t, zi_lt_f, zi_eq_t, zi_eq_f, nI_leI, nI_ltI, nI_eq, z_in, pk_mul, zu_same, zu_rw, zu_ix, zi_ne0, zi_sub, zi_m1, Nat.add_sub_cancel, Nat.reduceMul, Nat.reduceSub]
          refine ⟨fun h0 => hVQ _ _ ⟨S', rfl, hE, ?_⟩, fun h0 => hVQ _ _ ⟨S', rfl, hE, ?_⟩⟩
          · rw [gatherR, if_pos hw, ha]; simp only []; rw [if_pos h0]
          · rw [gatherR, if_pos hw, ha]; simp only []; rw [if_neg h0]; rfl
      · intro S' x5 x6 hE hr
        have hX' := (hQ.fr hE).1
        obtain ⟨⟨hl, hlv⟩, ⟨hnc, -⟩, -, ⟨hny, hny6⟩, -⟩ := id hX'.1
        have hB := gaO_B (t := t) (T := T) (at' := at') (n := c)
        refine sX10_gather_25 _ _ _ _ _ ?_
        simp (disch := omega) only [oAld, oAld1, oCV, oGI, oGR, oIf, oIfc, oIld, oNop, oPush, oRI, hM.1, hM.r23, hM.t23, hM.n23, hl, hnc, List.getElem?_cons_zero, List.getElem?_cons_succ, List.set_cons_zero, List.set_cons_succ, List.drop_succ_cons, List.drop_zero, List.take_succ_cons, List.take_zero, List.length_cons, List.length_nil, List.reverse_cons, List.reverse_nil, List.nil_append, List.cons_append, Option.toList_some, Option.toList_none, va_rf_s, true_and, and_true, true_implies, false_implies, not_true_eq_false, not_false_eq_true, Nat.reduceAdd, Nat.reduceLeDiff, Nat.le_add_left, Nat.zero_le, Nat.le_refl, znew, true_or, or_true, b01_t, b01_f, b01_ok, bool_ft, vp_b01, vp_b0, vp_b1, b01_eq0, b01_eq1, implies_true, nI_add, nI_clamp, zi_in, zi_le_t, zi_le_f, zi_lt_t, zi_lt_f, zi_eq_t, zi_eq_f, nI_leI, nI_ltI, nI_eq, z_in, pk_mul, zu_same, zu_rw, zu_ix, zi_ne0, zi_sub, zi_m1, Nat.add_sub_cancel, Nat.reduceMul, Nat.reduceSub]
        refine zC.of0 (zX10_fillsFar hM hX' (show c < 7 by omega) _ _) (by omega) (Nat.zero_le _) (Nat.zero_le _) ?_
        rintro _ _ ⟨rfl, S2, rfl, hf2, hg2⟩
        have hE2 := hE.q hf2 rfl rfl rfl
        have e1 := (hf2.f (j := 18) rfl).trans hl
        have e2 : S2 (b + 15) lv = nI (tny t) := by rw [hf2.at (o := 15) rfl rfl]; exact hny
        have e3 := (hf2.at (o := 37) rfl rfl).trans hr
        have ih := fun x5 x6 => ih S2 x5 x6 hE2 e3
        have hst : gaO t T at' (c + 1) = if gaN t T at' c (tny t) < an2 (gaO t T at' c) then some (c, gaN t T at' c (tny t)) else gaO t T at' c := rfl
        rw [hst] at ih
        have l6 := gaN_le (t := t) (T := T) (at' := at') (c := c) (tny t)
        have loopY : ∀ y, y ≤ tny t → zW V YX10_gather 53 [some (.ref b), some (.int what), some (.int (an1 (gaO t T at' c))), some (.int (nI (an2 (gaO t T at' c)))), some (.int (nI c)), some (.int (nI (gaN t T at' c y))), some (.int (nI y))] [] (z, h, S2, L) 0 0 := by
          refine z_down ?_ (fun y hy ihy => ?_)
          · refine sX10_gather_53 _ _ _ _ _ ?_
            simp (disch := omega) only [oAld, oAld1, oBin, oGI, oGR, oIf, oIfc, oIld, oInc, oIst, oNop, oPush, hM.1, hM.r28, hM.t28, hM.n28, hM.r54, hM.t54, hM.n54, hM.r63, hM.t63, hM.n63, e1, e2, List.getElem?_cons_zero, List.getElem?_cons_succ, List.set_cons_zero, List.set_cons_succ, List.drop_succ_cons, List.drop_zero, List.take_succ_cons, List.take_zero, List.length_cons, List.length_nil, List.reverse_cons, List.reverse_nil, List.nil_append, List.cons_append, Option.toList_some, Option.toList_none, va_rf_s, true_and, and_true, true_implies, false_implies, not_true_eq_false, not_false_eq_true, Nat.reduceAdd, Nat.reduceLeDiff, Nat.le_add_left, Nat.zero_le, Nat.le_refl, znew, true_or, or_true, b01_t, b01_f, b01_ok, bool_ft, vp_b01, vp_b0, vp_b1, b01_eq0, b01_eq1, implies_true, nI_add, nI_clamp, zi_in, zi_le_t, zi_le_f, zi_lt_t, zi_lt_f, zi_eq_t, zi_eq_f, nI_leI, nI_ltI, nI_eq, z_in, pk_mul, zu_same, zu_rw, zu_ix, zi_ne0, zi_sub, zi_m1, Nat.add_sub_cancel, Nat.reduceMul, Nat.reduceSub]
            refine ⟨fun h0 => ?_, fun h0 => ?_⟩
            · rw [if_pos h0] at ih; exact ih _ _
            · rw [if_neg h0] at ih; exact ih _ _
          · obtain ⟨hc1, hc2⟩ := hC y hy
            have e4 := hg2 (at' y) (by omega)
            have hsy : gaN t T at' c (y + 1) = if T (12 + y) = nI 0 then gaN t T at' c y + farM t (nI 0) (nI 0) c (at' y) else gaN t T at' c y := rfl
            rw [hsy] at ihy
            refine sX10_gather_53 _ _ _ _ _ ?_
            simp (disch := omega) only [oAld, oAld1, oBin, oGI, oGR, oIf, oIfc, oIld, oInc, oIst, oNop, oPush, hM.1, hM.r28, hM.t28, hM.n28, hM.r54, hM.t54, hM.n54, hM.r63, hM.t63, hM.n63, e1, e2, e3, hc1, e4, List.getElem?_cons_zero, List.getElem?_cons_succ, List.set_cons_zero, List.set_cons_succ, List.drop_succ_cons, List.drop_zero, List.take_succ_cons, List.take_zero, List.length_cons, List.length_nil, List.reverse_cons, List.reverse_nil, List.nil_append, List.cons_append, Option.toList_some, Option.toList_none, va_rf_s, true_and, and_true, true_implies, false_implies, not_true_eq_false, not_false_eq_true, Nat.reduceAdd, Nat.reduceLeDiff, Nat.le_add_left, Nat.zero_le, Nat.le_refl, znew, true_or, or_true, b01_t, b01_f, b01_ok, bool_ft, vp_b01, vp_b0, vp_b1, b01_eq0, b01_eq1, implies_true, nI_add, nI_clamp, zi_in, zi_le_t, zi_le_f, zi_lt_t, zi_lt_f, zi_eq_t, zi_eq_f, nI_leI, nI_ltI, nI_eq, z_in, pk_mul, zu_same, zu_rw, zu_ix, zi_ne0, zi_sub, zi_m1, Nat.add_sub_cancel, Nat.reduceMul, Nat.reduceSub]
            refine ⟨fun h0 => ?_, fun h0 => ?_⟩
            · rw [if_pos h0] at ihy; exact ihy
            · rw [if_neg h0] at ihy; exact ihy
        refine sX10_gather_47 _ _ _ _ _ ?_
        simp (disch := omega) only [oIst, oPush, List.getElem?_cons_zero, List.getElem?_cons_succ, List.set_cons_zero, List.set_cons_succ, List.drop_succ_cons, List.drop_zero, List.take_succ_cons, List.take_zero, List.length_cons, List.length_nil, List.reverse_cons, List.reverse_nil, List.nil_append, List.cons_append, Option.toList_some, Option.toList_none, va_rf_s, true_and, and_true, true_implies, false_implies, not_true_eq_false, not_false_eq_true, Nat.reduceAdd, Nat.reduceLeDiff, Nat.le_add_left, Nat.zero_le, Nat.le_refl, znew, true_or, or_true, b01_t, b01_f, b01_ok, bool_ft, vp_b01, vp_b0, vp_b1, b01_eq0, b01_eq1, implies_true, nI_add, nI_clamp, zi_in, zi_le_t, zi_le_f, zi_lt_t, zi_lt_f, zi_eq_t, zi_eq_f, nI_leI, nI_ltI, nI_eq, z_in, pk_mul, zu_same, zu_rw, zu_ix, zi_ne0, zi_sub, zi_m1, Nat.add_sub_cancel, Nat.reduceMul, Nat.reduceSub]
        exact loopY 0 (by omega)
    refine sX10_gather_15 _ _ _ _ _ ?_
    simp (disch := omega) only [oIst, oPush, List.getElem?_cons_zero, List.getElem?_cons_succ, List.set_cons_zero, List.set_cons_succ, List.drop_succ_cons, List.drop_zero, List.take_succ_cons, List.take_zero, List.length_cons, List.length_nil, List.reverse_cons, List.reverse_nil, List.nil_append, List.cons_append, Option.toList_some, Option.toList_none, va_rf_s, true_and, and_true, true_implies, false_implies, not_true_eq_false, not_false_eq_true, Nat.reduceAdd, Nat.reduceLeDiff, Nat.le_add_left, Nat.zero_le, Nat.le_refl, znew, true_or, or_true, b01_t, b01_f, b01_ok, bool_ft, vp_b01, vp_b0, vp_b1, b01_eq0, b01_eq1, implies_true, nI_add, nI_clamp, zi_in, zi_le_t, zi_le_f, zi_lt_t, zi_lt_f, zi_eq_t, zi_eq_f, nI_leI, nI_ltI, nI_eq, z_in, pk_mul, zu_same, zu_rw, zu_ix, zi_ne0, zi_sub, zi_m1, Nat.add_sub_cancel, Nat.reduceMul, Nat.reduceSub]
    exact loop 0 (by omega) S1 _ _ hE1 hr1
end MO
