/-! rows stay sound; the component: what is kept, undone; hours -/
theorem div2_N : ∀ q, q < 1000 → nI q / nI 2 = nI (q / 2) := by decide +kernel
def rB (T : Nat → Int32) (B : Nat) : Prop := ∃ hr, T 47 = nI hr ∧ hr ≤ B
theorem rI_hour {t : ZT} {T : Nat → Int32} {st sd : Int32} {B : Nat} (h6 : tny t ≤ 6) (hI : rI t T) (hB : rB T B) (hBb : B < 2 ^ 29) : rI t (hourT t st sd T) ∧ rB (hourT t st sd T) (B + 1) := by
  obtain ⟨h1, h2, h3, h4, ⟨at', h5⟩, ⟨h7, h8⟩, -, h9⟩ := hI
  obtain ⟨hr, e, hhr⟩ := hB
  have e47 : hourT t st sd T 47 = nI (hr + 1) := by rw [hourT_47, e, nI_add]
  refine ⟨⟨fun y hy => ?_, fun v hv => ?_, fun y hy => ?_, fun y hy => ?_, ⟨at', fun y hy => ?_⟩, ⟨fun hc => ?_, fun hc => ?_⟩, ⟨hr + 1, e47, by omega⟩, fun j hj => ?_⟩, hr + 1, e47, by omega⟩
  · by_cases hyn : y < tny t
    · rw [hourT_g h6 hyn]
      unfold glowNextF
      split
      · exact ⟨0, rfl, by omega, fun _ => rfl⟩
      · obtain ⟨q, eq, hq⟩ := within_N (v := T (6 + y) - coolNowF (tag t) (tte t) (tlw t) T y) (m := 999) (by omega)
        rw [eq]
        split
        · exact ⟨q / 2, div2_N q (by omega), by omega, fun h => by omega⟩
        · exact ⟨q, rfl, hq, fun h => by omega⟩
    · rw [hourT_o h6 (by omega) (by omega)]; exact h1 y hy
  · rw [hourT_o h6 (by omega) (by omega)]; exact h2 v hv
  · rw [hourT_h h6 hy]
    split
    · exact Or.inr rfl
    · exact h3 y hy
  · rw [hourT_o h6 (by omega) (by omega)]; exact h4 y hy
  · rw [hourT_o h6 (by omega) (by omega)]; exact h5 y hy
  · rw [hourT_o h6 (by omega) (by omega)]; exact h7 hc
  · rw [hourT_o h6 (by omega) (by omega)]; exact h8 hc
  · rw [hourT_o h6 (by omega) (by omega)]; exact h9 j hj
theorem hoursT_s {t : ZT} {T : Nat → Int32} {st sd : Int32} (n : Nat) : hoursT t st sd (n + 1) T = hourT t st sd (hoursT t st sd n T) := rfl
theorem rI_hours {t : ZT} {T : Nat → Int32} {st sd : Int32} {B : Nat} (h6 : tny t ≤ 6) (hI : rI t T) (hB : rB T B) : ∀ n, B + n < 2 ^ 29 → rI t (hoursT t st sd n T) ∧ rB (hoursT t st sd n T) (B + n)
  | 0, _ => ⟨hI, hB⟩
  | n + 1, hn => by
    obtain ⟨a, b⟩ := rI_hours (st := st) (sd := sd) h6 hI hB n (by omega)
    rw [hoursT_s]
    show rI t (hourT t st sd (hoursT t st sd n T)) ∧ rB (hourT t st sd (hoursT t st sd n T)) (B + n + 1)
    exact rI_hour h6 a b (show B + n < 2 ^ 29 by omega)
theorem rI_say {t : ZT} {T : Nat → Int32} {y v : Nat} (h6 : tny t ≤ 6) (hI : rI t T) (hy : y < tny t) (hv : v < 5) : rI t (sayT t T y v) ∧ sayT t T y v 47 = T 47 := by
  obtain ⟨h1, h2, h3, h4, ⟨at', h5⟩, ⟨h7, h8⟩, h10, h9⟩ := hI
  have pj : ∀ j, sayT t T y v j = if j = 24 + y then T 47 else if j = 18 + y then T (18 + y) + nI 1 else if j = 41 + v then T (41 + v) + nI 1 else if j = 36 + v then withinF (T (36 + v) - weT t T y v) (nI 0) (nI 99) else if j = 6 + y then withinF (T (6 + y) + glT t T y v) (nI 0) (nI 999) else T j := fun j => rfl
  have pe : ∀ j, j ≠ 24 + y → j ≠ 18 + y → j ≠ 41 + v → j ≠ 36 + v → j ≠ 6 + y → sayT t T y v j = T j := fun j j1 j2 j3 j4 j5 => by rw [pj, if_neg j1, if_neg j2, if_neg j3, if_neg j4, if_neg j5]
  have p47 : sayT t T y v 47 = T 47 := pe 47 (by omega) (by omega) (by omega) (by omega) (by omega)
  refine ⟨⟨fun i hi => ?_, fun i hi => ?_, fun i hi => ?_, fun i hi => ?_, ⟨at', fun i hi => ?_⟩, ⟨fun hc => ?_, fun hc => ?_⟩, by rw [p47]; exact h10, fun j hj => ?_⟩, p47⟩
  · by_cases he : i = y
    · subst he
      obtain ⟨q, eq, hq⟩ := within_N (v := T (6 + i) + glT t T i v) (m := 999) (by omega)
      rw [pj, if_neg (by omega), if_neg (by omega), if_neg (by omega), if_neg (by omega), if_pos rfl, eq]
      exact ⟨q, rfl, hq, fun h => by omega⟩
    · rw [pe _ (by omega) (by omega) (by omega) (by omega) (by omega)]; exact h1 i hi
  · by_cases he : i = v
    · subst he
      obtain ⟨q, eq, hq⟩ := within_N (v := T (36 + i) - weT t T y i) (m := 99) (by omega)
      rw [pj, if_neg (by omega), if_neg (by omega), if_neg (by omega), if_pos rfl, eq]
      exact ⟨q, rfl, hq⟩
    · rw [pe _ (by omega) (by omega) (by omega) (by omega) (by omega)]; exact h2 i hi
  · rw [pe _ (by omega) (by omega) (by omega) (by omega) (by omega)]; exact h3 i hi
  · rw [pe _ (by omega) (by omega) (by omega) (by omega) (by omega)]; exact h4 i hi
  · rw [pe _ (by omega) (by omega) (by omega) (by omega) (by omega)]; exact h5 i hi
  · rw [pe _ (by omega) (by omega) (by omega) (by omega) (by omega)]; exact h7 hc
  · rw [pe _ (by omega) (by omega) (by omega) (by omega) (by omega)]; exact h8 hc
  · rw [pe _ (by omega) (by omega) (by omega) (by omega) (by omega)]; exact h9 j hj
theorem rI_move {t : ZT} {T : Nat → Int32} {y c : Nat} (h6 : tny t ≤ 6) (hI : rI t T) (hy : y < tny t) (hc : c < tnc t) : rI t (moveT T y (nI c)) ∧ moveT T y (nI c) 47 = T 47 := by
  obtain ⟨h1, h2, h3, h4, ⟨at', h5⟩, ⟨h7, h8⟩, h10, h9⟩ := hI
  have pe : ∀ j, j ≠ y → moveT T y (nI c) j = T j := fun j hj => if_neg hj
  refine ⟨⟨fun i hi => ?_, fun i hi => ?_, fun i hi => ?_, fun i hi => ?_, ⟨fun i => if i = y then c else at' i, fun i hi => ?_⟩, ⟨fun hc => ?_, fun hc => ?_⟩, by rw [pe 47 (by omega)]; exact h10, fun j hj => ?_⟩, pe 47 (by omega)⟩
  · rw [pe _ (by omega)]; exact h1 i hi
  · rw [pe _ (by omega)]; exact h2 i hi
  · rw [pe _ (by omega)]; exact h3 i hi
  · rw [pe _ (by omega)]; exact h4 i hi
  · by_cases he : i = y
    · subst he
      show moveT T i (nI c) i = nI (if i = i then c else at' i) ∧ (if i = i then c else at' i) < tnc t
      rw [if_pos rfl]; exact ⟨if_pos rfl, hc⟩
    · show moveT T y (nI c) i = nI (if i = y then c else at' i) ∧ (if i = y then c else at' i) < tnc t
      rw [pe _ he, if_neg he]; exact h5 i hi
  · rw [pe _ (by omega)]; exact h7 hc
  · rw [pe _ (by omega)]; exact h8 hc
  · rw [pe _ (by omega)]; exact h9 j hj
theorem rI_rouge {t : ZT} {T : Nat → Int32} {y : Nat} (h6 : tny t ≤ 6) (hI : rI t T) (hy : y < tny t) : rI t (rougeT T y) ∧ rougeT T y 47 = T 47 := by
  obtain ⟨h1, h2, h3, h4, ⟨at', h5⟩, ⟨h7, h8⟩, h10, h9⟩ := hI
  have pj : ∀ j, rougeT T y j = if j = 30 + y then nI 1 else if j = 6 + y then withinF (T (6 + y) + nI 20) (nI 0) (nI 999) else T j := fun _ => rfl
  have pe : ∀ j, j ≠ 30 + y → j ≠ 6 + y → rougeT T y j = T j := fun j j1 j2 => by rw [pj, if_neg j1, if_neg j2]
  refine ⟨⟨fun i hi => ?_, fun i hi => ?_, fun i hi => ?_, fun i hi => ?_, ⟨at', fun i hi => ?_⟩, ⟨fun hc => ?_, fun hc => ?_⟩, by rw [pe 47 (by omega) (by omega)]; exact h10, fun j hj => ?_⟩, pe 47 (by omega) (by omega)⟩
  · by_cases he : i = y
    · subst he
      obtain ⟨q, eq, hq⟩ := within_N (v := T (6 + i) + nI 20) (m := 999) (by omega)
      rw [pj, if_neg (by omega), if_pos rfl, eq]
      exact ⟨q, rfl, hq, fun h => by omega⟩
    · rw [pe _ (by omega) (by omega)]; exact h1 i hi
  · rw [pe _ (by omega) (by omega)]; exact h2 i hi
  · rw [pe _ (by omega) (by omega)]; exact h3 i hi
  · by_cases he : i = y
    · subst he; rw [pj, if_pos rfl]; exact Or.inr rfl
    · rw [pe _ (by omega) (by omega)]; exact h4 i hi
  · rw [pe _ (by omega) (by omega)]; exact h5 i hi
  · rw [pe _ (by omega) (by omega)]; exact h7 hc
  · rw [pe _ (by omega) (by omega)]; exact h8 hc
  · rw [pe _ (by omega) (by omega)]; exact h9 j hj
/-- the lighter goes -/
theorem rI_light {t : ZT} {T : Nat → Int32} {c : Nat} (h6 : tny t ≤ 6) (hI : rI t T) (hc : c < tnc t) : rI t (fun j => if j = 46 then nI c else T j) := by
  obtain ⟨h1, h2, h3, h4, ⟨at', h5⟩, ⟨h7, h8⟩, h10, h9⟩ := hI
  have pe : ∀ j, j ≠ 46 → (fun j => if j = 46 then nI c else T j) j = T j := fun j hj => if_neg hj
  refine ⟨fun i hi => ?_, fun i hi => ?_, fun i hi => ?_, fun i hi => ?_, ⟨at', fun i hi => ?_⟩, ⟨fun _ => ⟨c, hc, if_pos rfl⟩, fun h => by omega⟩, by rw [pe 47 (by omega)]; exact h10, fun j hj => ?_⟩
  · rw [pe _ (by omega)]; exact h1 i hi
  · rw [pe _ (by omega)]; exact h2 i hi
  · rw [pe _ (by omega)]; exact h3 i hi
  · rw [pe _ (by omega)]; exact h4 i hi
  · rw [pe _ (by omega)]; exact h5 i hi
  · rw [pe _ (by omega)]; exact h9 j hj
/-- towns kept for undoing, the last one ahead -/
def cU (S : Nat → Nat → Int32) (c : Nat) (t : ZT) (U : List (Nat → Int32)) : Prop := S c 5 = nI U.length ∧ U.length ≤ 40 ∧ ∃ ua, ua < 40 ∧ S c 6 = nI ua ∧ ∀ i, i < U.length → tw S (c + 206 + 10 * ((ua + 39 - i) % 40)) t (tsd t) (U.getD i (fun _ => 0))
/-- a deed's frame -/
def cDo (c : Nat) (S S' : Nat → Nat → Int32) : Prop := (∀ a, a ≠ c → ¬ (c + 16 ≤ a ∧ a < c + 36) → ¬ (c + 71 ≤ a ∧ a < c + 203) → ¬ (c + 206 ≤ a ∧ a < c + 606) → S' a = S a) ∧ ∀ j, j ≠ 5 → j ≠ 6 → j ≠ 15 → S' c j = S c j
theorem cDo.q {c : Nat} {S S' : Nat → Nat → Int32} (h : cqF c S S') : cDo c S S' := ⟨fun a h1 h2 h3 h4 => h.1 a h1 (by omega) h3, fun j h1 h2 h3 => h.2 j h3⟩
theorem cDo.tr {c : Nat} {S S' S'' : Nat → Nat → Int32} (h : cDo c S S') (h' : cDo c S' S'') : cDo c S S'' := ⟨fun a h1 h2 h3 h4 => (h'.1 a h1 h2 h3 h4).trans (h.1 a h1 h2 h3 h4), fun j h1 h2 h3 => (h'.2 j h1 h2 h3).trans (h.2 j h1 h2 h3)⟩
theorem cU.fr {S S' : Nat → Nat → Int32} {c : Nat} {t : ZT} {U : List (Nat → Int32)} (h : cU S c t U) (h5 : S' c 5 = S c 5) (h6 : S' c 6 = S c 6) (hr : ∀ a, c + 206 ≤ a → a < c + 606 → S' a = S a) : cU S' c t U := by
  obtain ⟨a1, a2, ua, a3, a4, a5⟩ := h
  exact ⟨by rw [h5]; exact a1, a2, ua, a3, by rw [h6]; exact a4, fun i hi => (a5 i hi).fr (fun o ho => hr _ (by omega) (by omega))⟩
theorem cU.q {S S' : Nat → Nat → Int32} {c : Nat} {t : ZT} {U : List (Nat → Int32)} (h : cU S c t U) (hF : cqF c S S') : cU S' c t U := h.fr (hF.2 5 (by omega)) (hF.2 6 (by omega)) (fun a h1 h2 => hF.1 a (by omega) (by omega) (by omega))
theorem rem40 : ∀ n, n < 200 → nI n - nI n / nI 40 * nI 40 = nI (n % 40) := by decide +kernel
section CL
variable {l : Launch} {E : zE} {z : Nat} {h : Nat → Option zSh} {S : Nat → Nat → Int32} {L : Nat → Nat → Int64} {c D ta : Nat} {t : ZT} {q0 T : Nat → Int32} {A : zTA} {U : List (Nat → Int32)}
theorem zX0_keeps (hB : isC h c) (hT : tw S (c + 16) t (tsd t) T) (hU0 : cU S c t U) : zM l E 3 YX0_keeps [.ref c] (z, h, S, L) 0 0 (fun r X => r = none ∧ ∃ S', X = (z, h, S', L) ∧ (∀ a, a ≠ c → ¬ (c + 206 ≤ a ∧ a < c + 606) → S' a = S a) ∧ (∀ j, j ≠ 5 → j ≠ 6 → S' c j = S c j) ∧ cU S' c t (pushU T U)) (fun _ _ => False) := by
  obtain ⟨a1, a2, ua, a3, a4, a5⟩ := hU0
  obtain ⟨p1, hW⟩ := hB.pa a3
  refine zM.go rfl rfl (Nat.le_of_ble_eq_true rfl) (ls := [some (.ref c)]) rfl ?_
  intro V hVl hVE hVd hVc hVs hVQ hVX
  refine sX0_keeps_0 _ _ _ _ _ ?_
  simp (disch := omega) only [oAld, oAld9, oCV, oGI, oGR, hB.k, hB.r9, hB.t9, hB.n9, hB.r7, hW.k, a4, p1, List.getElem?_cons_zero, List.getElem?_cons_succ, List.set_cons_zero, List.set_cons_succ, List.drop_succ_cons, List.drop_zero, List.take_succ_cons, List.take_zero, List.length_cons, List.length_nil, List.reverse_cons, List.reverse_nil, List.nil_append, List.cons_append, Option.toList_some, Option.toList_none, va_rf_s, true_and, and_true, true_implies, false_implies, not_true_eq_false, not_false_eq_true, Nat.reduceAdd, Nat.reduceLeDiff, Nat.le_add_left, Nat.zero_le, Nat.le_refl, znew, true_or, or_true, b01_t, b01_f, b01_ok, bool_ft, vp_b01, vp_b0, vp_b1, b01_eq0, b01_eq1, implies_true, nI_add, nI_clamp, zi_in, zi_le_t, zi_le_f, zi_lt_t, zi_lt_f, zi_eq_t, zi_eq_f, nI_leI, nI_ltI, nI_eq, z_in, pk_mul, zu_same, zu_rw, zu_ix, zi_ne0, zi_sub, zi_m1, Nat.add_sub_cancel, Nat.reduceMul, Nat.reduceSub]
  refine zC.of0 (zX5_takes hW hB.tn (Or.inl (by omega))) (by omega) (Nat.zero_le _) (Nat.zero_le _) ?_
  rintro _ _ ⟨rfl, S1, rfl, hF, hTT⟩
  have e5 : S1 c 5 = nI U.length := by rw [hF c (by omega)]; exact a1
  have e6 : S1 c 6 = nI ua := by rw [hF c (by omega)]; exact a4
  have er := rem40 (ua + 1) (by omega)
  obtain ⟨m, hm, hml⟩ : ∃ m, minF (nI 40) (nI (U.length + 1)) = nI m ∧ m = min 40 (U.length + 1) := by
    refine ⟨_, ?_, rfl⟩
    unfold minF
    by_cases h4 : U.length + 1 < 40
    · rw [if_pos (nI_lt h4 (by omega)), Nat.min_eq_right (by omega)]
    · rw [if_neg (nI_nlt (by omega) (by omega)), Nat.min_eq_left (by omega)]
  refine sX0_keeps_16 (by omega) _ _ _ _ _ ?_
  simp (disch := omega) only [oAld, oBin, oDiv, oGI, oM2, oPI, oPush, oRV, hB.k, e5, e6, er, hm, List.getElem?_cons_zero, List.getElem?_cons_succ, List.set_cons_zero, List.set_cons_succ, List.drop_succ_cons, List.drop_zero, List.take_succ_cons, List.take_zero, List.length_cons, List.length_nil, List.reverse_cons, List.reverse_nil, List.nil_append, List.cons_append, Option.toList_some, Option.toList_none, va_rf_s, true_and, and_true, true_implies, false_implies, not_true_eq_false, not_false_eq_true, Nat.reduceAdd, Nat.reduceLeDiff, Nat.le_add_left, Nat.zero_le, Nat.le_refl, znew, true_or, or_true, b01_t, b01_f, b01_ok, bool_ft, vp_b01, vp_b0, vp_b1, b01_eq0, b01_eq1, implies_true, nI_add, nI_clamp, zi_in, zi_le_t, zi_le_f, zi_lt_t, zi_lt_f, zi_eq_t, zi_eq_f, nI_leI, nI_ltI, nI_eq, z_in, pk_mul, zu_same, zu_rw, zu_ix, zi_ne0, zi_sub, zi_m1, Nat.add_sub_cancel, Nat.reduceMul, Nat.reduceSub]
  refine hVQ _ _ ⟨rfl, _, rfl, fun a h1 h2 => ?_, fun j h1 h2 => ?_, ?_⟩
  · rw [zu_rw _ _ h1, zu_rw _ _ h1]; exact hF a (by omega)
  · rw [zu_ix _ _ h1, zu_ix _ _ h2, hF c (by omega)]
  · have hlen : (pushU T U).length = m := by unfold pushU; rw [List.length_take, List.length_cons, hml]
    refine ⟨by rw [hlen]; simp (disch := omega) only [List.getElem?_cons_zero, List.getElem?_cons_succ, List.set_cons_zero, List.set_cons_succ, List.drop_succ_cons, List.drop_zero, List.take_succ_cons, List.take_zero, List.length_cons, List.length_nil, List.reverse_cons, List.reverse_nil, List.nil_append, List.cons_append, Option.toList_some, Option.toList_none, va_rf_s, true_and, and_true, true_implies, false_implies, not_true_eq_false, not_false_eq_true, Nat.reduceAdd, Nat.reduceLeDiff, Nat.le_add_left, Nat.zero_le, Nat.le_refl, znew, true_or, or_true, b01_t, b01_f, b01_ok, bool_ft, vp_b01, vp_b0, vp_b1, b01_eq0, b01_eq1, implies_true, nI_add, nI_clamp, zi_in, zi_le_t, zi_le_f, zi_lt_t, zi_lt_f, zi_eq_t, zi_eq_f, nI_leI, nI_ltI, nI_eq, z_in, pk_mul, zu_same, zu_rw, zu_ix, zi_ne0, zi_sub, zi_m1, Nat.add_sub_cancel, Nat.reduceMul, Nat.reduceSub, ], by rw [hlen]; omega, (ua + 1) % 40, Nat.mod_lt _ (by omega), by simp (disch := omega) only [List.getElem?_cons_zero, List.getElem?_cons_succ, List.set_cons_zero, List.set_cons_succ, List.drop_succ_cons, List.drop_zero, List.take_succ_cons, List.take_zero, List.length_cons, List.length_nil, List.reverse_cons, List.reverse_nil, List.nil_append, List.cons_append, Option.toList_some, Option.toList_none, va_rf_s, true_and, and_true, true_implies, false_implies, not_true_eq_false, not_false_eq_true, Nat.reduceAdd, Nat.reduceLeDiff, Nat.le_add_left, Nat.zero_le, Nat.le_refl, znew, true_or, or_true, b01_t, b01_f, b01_ok, bool_ft, vp_b01, vp_b0, vp_b1, b01_eq0, b01_eq1, implies_true, nI_add, nI_clamp, zi_in, zi_le_t, zi_le_f, zi_lt_t, zi_lt_f, zi_eq_t, zi_eq_f, nI_leI, nI_ltI, nI_eq, z_in, pk_mul, zu_same, zu_rw, zu_ix, zi_ne0, zi_sub, zi_m1, Nat.add_sub_cancel, Nat.reduceMul, Nat.reduceSub, ], fun i hi => ?_⟩
    rw [hlen] at hi
    refine tw.fr (S := S1) ?_ (fun o ho => by rw [zu_rw _ _ (by omega), zu_rw _ _ (by omega)])
    have hg : (pushU T U).getD i (fun _ => 0) = (T :: U).getD i (fun _ => 0) := by
      unfold pushU
      rw [List.getD_eq_getElem?_getD, List.getD_eq_getElem?_getD, List.getElem?_take, if_pos (by omega)]
    rw [hg]
    cases i with
    | zero =>
      have e : ((ua + 1) % 40 + 39 - 0) % 40 = ua := by omega
      rw [e]
      exact hTT _ _ _ hT
    | succ i =>
      have e : ((ua + 1) % 40 + 39 - (i + 1)) % 40 = (ua + 39 - i) % 40 := by omega
      rw [e]
      have hne : (ua + 39 - i) % 40 ≠ ua := by omega
      refine (a5 i (by omega)).fr (fun o ho => hF _ ?_)
      have : (ua + 39 - i) % 40 < 40 := Nat.mod_lt _ (by omega)
      omega
theorem zX0_undo (hB : isC h c) (hT : tw S (c + 16) t (tsd t) T) (hU0 : cU S c t U) : zM l E 3 YX0_undo [.ref c] (z, h, S, L) 0 0 (fun r X => ∃ S', X = (z, h, S', L) ∧ cDo c S S' ∧ ((U = [] ∧ r = some (.int (nI 0)) ∧ tw S' (c + 16) t (tsd t) T ∧ cU S' c t []) ∨ ∃ R U', U = R :: U' ∧ r = some (.int (nI 1)) ∧ tw S' (c + 16) t (tsd t) R ∧ cU S' c t U')) (fun _ _ => False) := by
  obtain ⟨a1, a2, ua, a3, a4, a5⟩ := id hU0
  refine zM.go rfl rfl (Nat.le_of_ble_eq_true rfl) (ls := [some (.ref c)]) rfl ?_
  intro V hVl hVE hVd hVc hVs hVQ hVX
  cases U with
  | nil =>
    have a1' : S c 5 = nI 0 := a1
    have hW := hB.tn
    refine sX0_undo_0 _ _ _ _ _ ?_
    simp (disch := omega) only [oAld, oAld9, oBin, oCV, oDiv, oDup, oGI, oGR, oIf, oPI, oPush, oRZ, hB.k, hB.r7, hB.r9, hB.t9, hB.n9, hW.k, a1', List.getElem?_cons_zero, List.getElem?_cons_succ, List.set_cons_zero, List.set_cons_succ, List.drop_succ_cons, List.drop_zero, List.take_succ_cons, List.take_zero, List.length_cons, List.length_nil, List.reverse_cons, List.reverse_nil, List.nil_append, List.cons_append, Option.toList_some, Option.toList_none, va_rf_s, true_and, and_true, true_implies, false_implies, not_true_eq_false, not_false_eq_true, Nat.reduceAdd, Nat.reduceLeDiff, Nat.le_add_left, Nat.zero_le, Nat.le_refl, znew, true_or, or_true, b01_t, b01_f, b01_ok, bool_ft, vp_b01, vp_b0, vp_b1, b01_eq0, b01_eq1, implies_true, nI_add, nI_clamp, zi_in, zi_le_t, zi_le_f, zi_lt_t, zi_lt_f, zi_eq_t, zi_eq_f, nI_leI, nI_ltI, nI_eq, z_in, pk_mul, zu_same, zu_rw, zu_ix, zi_ne0, zi_sub, zi_m1, Nat.add_sub_cancel, Nat.reduceMul, Nat.reduceSub]
    exact hVQ _ _ ⟨S, rfl, cDo.q cqF.rf, Or.inl ⟨rfl, rfl, hT, hU0⟩⟩
  | cons R U' =>
    rw [List.length_cons] at a1 a2
    have er := rem40 (ua + 39) (by omega)
    have e1 : ua + 40 - 1 = ua + 39 := by omega
    obtain ⟨ub, hub⟩ : ∃ ub, ub = (ua + 39) % 40 := ⟨_, rfl⟩
    have hub40 : ub < 40 := by omega
    obtain ⟨p1, p2⟩ := hB.pa hub40
    have hW := hB.tn
    rw [← hub] at er
    refine sX0_undo_0 _ _ _ _ _ ?_
    simp (disch := omega) only [oAld, oAld9, oBin, oCV, oDiv, oDup, oGI, oGR, oIf, oPI, oPush, oRZ, hB.k, hB.r7, hB.r9, hB.t9, hB.n9, hW.k, a1, a4, e1, er, p1, List.getElem?_cons_zero, List.getElem?_cons_succ, List.set_cons_zero, List.set_cons_succ, List.drop_succ_cons, List.drop_zero, List.take_succ_cons, List.take_zero, List.length_cons, List.length_nil, List.reverse_cons, List.reverse_nil, List.nil_append, List.cons_append, Option.toList_some, Option.toList_none, va_rf_s, true_and, and_true, true_implies, false_implies, not_true_eq_false, not_false_eq_true, Nat.reduceAdd, Nat.reduceLeDiff, Nat.le_add_left, Nat.zero_le, Nat.le_refl, znew, true_or, or_true, b01_t, b01_f, b01_ok, bool_ft, vp_b01, vp_b0, vp_b1, b01_eq0, b01_eq1, implies_true, nI_add, nI_clamp, zi_in, zi_le_t, zi_le_f, zi_lt_t, zi_lt_f, zi_eq_t, zi_eq_f, nI_leI, nI_ltI, nI_eq, z_in, pk_mul, zu_same, zu_rw, zu_ix, zi_ne0, zi_sub, zi_m1, Nat.add_sub_cancel, Nat.reduceMul, Nat.reduceSub]
    refine zC.of0 (zX5_takes hW p2 (Or.inr (show c + 16 + 10 ≤ c + 206 + 10 * ub by omega))) (by omega) (Nat.zero_le _) (Nat.zero_le _) ?_
    rintro _ _ ⟨rfl, S1, rfl, hF, hTT⟩
    refine sX0_undo_51 _ _ _ _ _ ?_
    simp (disch := omega) only [oPush, oRZ, List.getElem?_cons_zero, List.getElem?_cons_succ, List.set_cons_zero, List.set_cons_succ, List.drop_succ_cons, List.drop_zero, List.take_succ_cons, List.take_zero, List.length_cons, List.length_nil, List.reverse_cons, List.reverse_nil, List.nil_append, List.cons_append, Option.toList_some, Option.toList_none, va_rf_s, true_and, and_true, true_implies, false_implies, not_true_eq_false, not_false_eq_true, Nat.reduceAdd, Nat.reduceLeDiff, Nat.le_add_left, Nat.zero_le, Nat.le_refl, znew, true_or, or_true, b01_t, b01_f, b01_ok, bool_ft, vp_b01, vp_b0, vp_b1, b01_eq0, b01_eq1, implies_true, nI_add, nI_clamp, zi_in, zi_le_t, zi_le_f, zi_lt_t, zi_lt_f, zi_eq_t, zi_eq_f, nI_leI, nI_ltI, nI_eq, z_in, pk_mul, zu_same, zu_rw, zu_ix, zi_ne0, zi_sub, zi_m1, Nat.add_sub_cancel, Nat.reduceMul, Nat.reduceSub]
    refine hVQ _ _ ⟨S1, rfl, ⟨fun a h1 h2 h3 h4 => ?_, fun j h1 h2 h3 => ?_⟩, Or.inr ⟨R, U', rfl, rfl, hTT _ _ _ ?_, ?_⟩⟩
    · rw [hF a (by omega), zu_rw _ _ h1, zu_rw _ _ h1]
    · rw [hF c (by omega), zu_ix _ _ h2, zu_ix _ _ h1]
    · have := a5 0 (by rw [List.length_cons]; omega)
      rw [show (ua + 39 - 0) % 40 = ub by omega] at this
      exact this.fr (fun o ho => by rw [zu_rw _ _ (by omega), zu_rw _ _ (by omega)])
    · refine ⟨by rw [hF c (by omega)]; simp (disch := omega) only [List.getElem?_cons_zero, List.getElem?_cons_succ, List.set_cons_zero, List.set_cons_succ, List.drop_succ_cons, List.drop_zero, List.take_succ_cons, List.take_zero, List.length_cons, List.length_nil, List.reverse_cons, List.reverse_nil, List.nil_append, List.cons_append, Option.toList_some, Option.toList_none, va_rf_s, true_and, and_true, true_implies, false_implies, not_true_eq_false, not_false_eq_true, Nat.reduceAdd, Nat.reduceLeDiff, Nat.le_add_left, Nat.zero_le, Nat.le_refl, znew, true_or, or_true, b01_t, b01_f, b01_ok, bool_ft, vp_b01, vp_b0, vp_b1, b01_eq0, b01_eq1, implies_true, nI_add, nI_clamp, zi_in, zi_le_t, zi_le_f, zi_lt_t, zi_lt_f, zi_eq_t, zi_eq_f, nI_leI, nI_ltI, nI_eq, z_in, pk_mul, zu_same, zu_rw, zu_ix, zi_ne0, zi_sub, zi_m1, Nat.add_sub_cancel, Nat.reduceMul, Nat.reduceSub, ], by omega, ub, hub40, by rw [hF c (by omega)]; simp (disch := omega) only [List.getElem?_cons_zero, List.getElem?_cons_succ, List.set_cons_zero, List.set_cons_succ, List.drop_succ_cons, List.drop_zero, List.take_succ_cons, List.take_zero, List.length_cons, List.length_nil, List.reverse_cons, List.reverse_nil, List.nil_append, List.cons_append, Option.toList_some, Option.toList_none, va_rf_s, true_and, and_true, true_implies, false_implies, not_true_eq_false, not_false_eq_true, Nat.reduceAdd, Nat.reduceLeDiff, Nat.le_add_left, Nat.zero_le, Nat.le_refl, znew, true_or, or_true, b01_t, b01_f, b01_ok, bool_ft, vp_b01, vp_b0, vp_b1, b01_eq0, b01_eq1, implies_true, nI_add, nI_clamp, zi_in, zi_le_t, zi_le_f, zi_lt_t, zi_lt_f, zi_eq_t, zi_eq_f, nI_leI, nI_ltI, nI_eq, z_in, pk_mul, zu_same, zu_rw, zu_ix, zi_ne0, zi_sub, zi_m1, Nat.add_sub_cancel, Nat.reduceMul, Nat.reduceSub, ], fun i hi => ?_⟩
      have h5 := a5 (i + 1) (by rw [List.length_cons]; omega)
      rw [show (ua + 39 - (i + 1)) % 40 = (ub + 39 - i) % 40 by omega] at h5
      have : (ub + 39 - i) % 40 < 40 := Nat.mod_lt _ (by omega)
      exact h5.fr (fun o ho => by rw [hF _ (by omega), zu_rw _ _ (by omega), zu_rw _ _ (by omega)])
theorem zX0_runs {w ar n B : Nat} {st sd : Int32} (hB : isC h c) (hTa : zr h c 3 = some ta) (hTI : tI t) (hW : isTw h w) (hw : c + 16 ≤ w) (hw2 : w + 10 ≤ c + 606) (hX : isTx h S (okR c z) D ta t q0 A) (hT : tw S w t sd T) (hI : rI t T) (hrB : rB T B) (hBn : B + n < 2 ^ 29) (hn : n < 1000) (har : (zt h ar = 27 ∧ st = nI 0) ∨ (zt h ar = 28 ∧ st = nI 1)) :
    zM l E (D + 6) YX0_runs [.ref c, .ref w, .int (nI n), .ref ar] (z, h, S, L) 0 0 (fun r X => r = none ∧ ∃ S', X = (z, h, S', L) ∧ twF w S S' ∧ tw S' w t sd (hoursT t st sd n T)) (fun _ _ => False) := by
  have h6 := hX.b.2.2.1
  have hk : okW (okR c z) w := okR.w hw hw2
  refine zM.go rfl rfl (Nat.le_of_ble_eq_true rfl) (ls := [some (.ref c), some (.ref w), some (.int (nI n)), some (.ref ar), none]) rfl ?_
  intro V hVl hVE hVd hVc hVs hVQ hVX
  have loop : ∀ k, k ≤ n → ∀ S1, twF w S S1 → tw S1 w t sd (hoursT t st sd k T) → zW V YX0_runs 3 [some (.ref c), some (.ref w), some (.int (nI n)), some (.ref ar), some (.int (nI k))] [] (z, h, S1, L) 0 0 := by
    refine z_down ?_ (fun k hkn ih => ?_)
    · intro S1 hF hT1
      refine sX0_runs_3 _ _ _ _ _ ?_
      simp (disch := omega) only [oAld, oCV, oGR, oIfc, oIld, oRV, hB.k, hTa, hW.k, List.getElem?_cons_zero, List.getElem?_cons_succ, List.set_cons_zero, List.set_cons_succ, List.drop_succ_cons, List.drop_zero, List.take_succ_cons, List.take_zero, List.length_cons, List.length_nil, List.reverse_cons, List.reverse_nil, List.nil_append, List.cons_append, Option.toList_some, Option.toList_none, va_rf_s, true_and, and_true, true_implies, false_implies, not_true_eq_false, not_false_eq_true, Nat.reduceAdd, Nat.reduceLeDiff, Nat.le_add_left, Nat.zero_le, Nat.le_refl, znew, true_or, or_true, b01_t, b01_f, b01_ok, bool_ft, vp_b01, vp_b0, vp_b1, b01_eq0, b01_eq1, implies_true, nI_add, nI_clamp, zi_in, zi_le_t, zi_le_f, zi_lt_t, zi_lt_f, zi_eq_t, zi_eq_f, nI_leI, nI_ltI, nI_eq, z_in, pk_mul, zu_same, zu_rw, zu_ix, zi_ne0, zi_sub, zi_m1, Nat.add_sub_cancel, Nat.reduceMul, Nat.reduceSub]
      exact hVQ _ _ ⟨rfl, S1, rfl, hF, hT1⟩
    · intro S1 hF hT1
      obtain ⟨hI1, -⟩ := rI_hours (st := st) (sd := sd) h6 hI hrB k (by omega)
      have hX1 : isTx h S1 (okR c z) D ta t q0 A := hX.fr (fun a ha => hF a (hk a ha)) (fun _ _ => rfl) (fun _ ha => ha)
      refine sX0_runs_3 _ _ _ _ _ ?_
      simp (disch := omega) only [oAld, oCV, oGR, oIfc, oIld, oRV, hB.k, hTa, hW.k, List.getElem?_cons_zero, List.getElem?_cons_succ, List.set_cons_zero, List.set_cons_succ, List.drop_succ_cons, List.drop_zero, List.take_succ_cons, List.take_zero, List.length_cons, List.length_nil, List.reverse_cons, List.reverse_nil, List.nil_append, List.cons_append, Option.toList_some, Option.toList_none, va_rf_s, true_and, and_true, true_implies, false_implies, not_true_eq_false, not_false_eq_true, Nat.reduceAdd, Nat.reduceLeDiff, Nat.le_add_left, Nat.zero_le, Nat.le_refl, znew, true_or, or_true, b01_t, b01_f, b01_ok, bool_ft, vp_b01, vp_b0, vp_b1, b01_eq0, b01_eq1, implies_true, nI_add, nI_clamp, zi_in, zi_le_t, zi_le_f, zi_lt_t, zi_lt_f, zi_eq_t, zi_eq_f, nI_leI, nI_ltI, nI_eq, z_in, pk_mul, zu_same, zu_rw, zu_ix, zi_ne0, zi_sub, zi_m1, Nat.add_sub_cancel, Nat.reduceMul, Nat.reduceSub]
      refine zC.of0 (zX5_goesBy hW hX1 hk hT1 hI1 hTI har) (by omega) (Nat.zero_le _) (Nat.zero_le _) ?_
      rintro _ _ ⟨rfl, S2, rfl, hF2, hT2⟩
      refine sX0_runs_18 _ _ _ _ _ ?_
      simp (disch := omega) only [oInc, oNop, List.getElem?_cons_zero, List.getElem?_cons_succ, List.set_cons_zero, List.set_cons_succ, List.drop_succ_cons, List.drop_zero, List.take_succ_cons, List.take_zero, List.length_cons, List.length_nil, List.reverse_cons, List.reverse_nil, List.nil_append, List.cons_append, Option.toList_some, Option.toList_none, va_rf_s, true_and, and_true, true_implies, false_implies, not_true_eq_false, not_false_eq_true, Nat.reduceAdd, Nat.reduceLeDiff, Nat.le_add_left, Nat.zero_le, Nat.le_refl, znew, true_or, or_true, b01_t, b01_f, b01_ok, bool_ft, vp_b01, vp_b0, vp_b1, b01_eq0, b01_eq1, implies_true, nI_add, nI_clamp, zi_in, zi_le_t, zi_le_f, zi_lt_t, zi_lt_f, zi_eq_t, zi_eq_f, nI_leI, nI_ltI, nI_eq, z_in, pk_mul, zu_same, zu_rw, zu_ix, zi_ne0, zi_sub, zi_m1, Nat.add_sub_cancel, Nat.reduceMul, Nat.reduceSub]
      exact ih S2 (fun a ha => (hF2 a ha).trans (hF a ha)) hT2
  refine sX0_runs_0 _ _ _ _ _ ?_
  simp (disch := omega) only [oIst, oPush, List.getElem?_cons_zero, List.getElem?_cons_succ, List.set_cons_zero, List.set_cons_succ, List.drop_succ_cons, List.drop_zero, List.take_succ_cons, List.take_zero, List.length_cons, List.length_nil, List.reverse_cons, List.reverse_nil, List.nil_append, List.cons_append, Option.toList_some, Option.toList_none, va_rf_s, true_and, and_true, true_implies, false_implies, not_true_eq_false, not_false_eq_true, Nat.reduceAdd, Nat.reduceLeDiff, Nat.le_add_left, Nat.zero_le, Nat.le_refl, znew, true_or, or_true, b01_t, b01_f, b01_ok, bool_ft, vp_b01, vp_b0, vp_b1, b01_eq0, b01_eq1, implies_true, nI_add, nI_clamp, zi_in, zi_le_t, zi_le_f, zi_lt_t, zi_lt_f, zi_eq_t, zi_eq_f, nI_leI, nI_ltI, nI_eq, z_in, pk_mul, zu_same, zu_rw, zu_ix, zi_ne0, zi_sub, zi_m1, Nat.add_sub_cancel, Nat.reduceMul, Nat.reduceSub]
  exact loop 0 (by omega) S (fun _ _ => rfl) hT
end CL
