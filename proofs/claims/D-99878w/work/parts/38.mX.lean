/-! reading: sums; pure side, emit, comesOut, unit -/
abbrev zCd : Type := List (Nat × Int32)
def opN (k : Nat) : Nat := if k = 8 then 2 else if k = 9 then 3 else if k = 10 then 4 else 5
abbrev zRd : Type := zCu → zPR (zCd × zCu)
def rdU (A : List zTk) (l : Nat) (sub : zRd) : zRd := fun q =>
  if tkK A q.1 = 2 then pB (pGo A q) (fun q' => .ok ([(0, nI (tkV A q.1))], q'))
  else if 34 ≤ tkK A q.1 ∧ tkK A q.1 ≤ 42 then pB (pGo A q) (fun q' => .ok ([(1, nI (tkK A q.1 - 34))], q'))
  else if tkK A q.1 = 6 then (if l = 0 then pErr A 2 q.1 else pB (pGo A q) (fun q1 => pB (sub q1) (fun r => pB (pMust A 7 r.2) (fun q3 => .ok (r.1, q3)))))
  else pErr A 1 q.1
def rdL (A : List zTk) (k1 k2 : Nat) (u : zRd) : Nat → zCd → zRd
  | 0, c, q => .ok (c, q)
  | f + 1, c, q => if tkK A q.1 = k1 ∨ tkK A q.1 = k2 then pB (pGo A q) (fun q1 => pB (u q1) (fun r => rdL A k1 k2 u f (c ++ (r.1 ++ [(opN (tkK A q.1), nI 0)])) r.2)) else .ok (c, q)
def rdG (A : List zTk) (k1 k2 : Nat) (u : zRd) : zRd := fun q => pB (u q) (fun r => rdL A k1 k2 u 401 r.1 r.2)
def rdTm (A : List zTk) (u : zRd) : zRd := rdG A 8 9 (rdG A 10 15 u)
def rdX (A : List zTk) : Nat → zRd
  | 0 => rdTm A (rdU A 0 (fun q => pErr A 1 q.1))
  | l + 1 => rdTm A (rdU A (l + 1) (rdX A l))
/-- the unit of level l -/
def rdW (A : List zTk) (l : Nat) : zRd := match l with
  | 0 => rdU A 0 (fun q => pErr A 1 q.1)
  | l + 1 => rdU A (l + 1) (rdX A l)
theorem rdX_eq (A : List zTk) (l : Nat) : rdX A l = rdTm A (rdW A l) := by cases l <;> rfl
/-- signs that wait, the last one ahead -/
def wAt (P : Nat → Int32) : List Nat → Prop
  | [] => True
  | w :: r => P r.length = nI w ∧ wAt P r
theorem wAt.keep {P P' : Nat → Int32} : ∀ {st : List Nat}, wAt P st → (∀ j, j < st.length → P' j = P j) → wAt P' st
  | [], _, _ => trivial
  | w :: st, h, hk => ⟨(hk _ (by simp)).trans h.1, wAt.keep h.2 (fun j hj => hk j (by simp; omega))⟩
def stopB (s : Bool) (w : Nat) : Bool := decide (w = 6) || (s && (decide (w = 8) || decide (w = 9)))
def poR (s : Bool) : List Nat → List Nat
  | [] => []
  | w :: r => if stopB s w = true then w :: r else poR s r
def poC (s : Bool) : List Nat → zCd
  | [] => []
  | w :: r => if stopB s w = true then [] else (opN w, nI 0) :: poC s r
def opC : List Nat → Nat
  | [] => 0
  | w :: r => if w = 6 then opC r else opC r + 1
theorem poC_len (s : Bool) : ∀ W, (poC s W).length + opC (poR s W) ≤ opC W
  | [] => Nat.le_refl _
  | w :: r => by
    have ih := poC_len s r
    rw [poC, poR]
    split
    · simp
    · rename_i hs
      have hw : w ≠ 6 := fun e => hs (by simp [stopB, e])
      have e : opC (w :: r) = opC r + 1 := by rw [opC, if_neg hw]
      rw [e, List.length_cons]; omega
theorem poR_len (s : Bool) : ∀ W, (poR s W).length ≤ W.length
  | [] => Nat.le_refl _
  | w :: r => by
    have ih := poR_len s r
    rw [poR]
    split
    · exact Nat.le_refl _
    · rw [List.length_cons]; omega
theorem wAt.po {P : Nat → Int32} (s : Bool) : ∀ {W : List Nat}, wAt P W → wAt P (poR s W)
  | [], h => h
  | w :: r, h => by
    rw [poR]
    split
    · exact h
    · exact wAt.po s h.2
theorem codeAt_snoc {C I : Nat → Int32} : ∀ {cl : zCd} {c : Nat} {q : Nat × Int32}, codeAt C I c cl → C (c + cl.length) = nI q.1 → I (c + cl.length) = q.2 → codeAt C I c (cl ++ [q])
  | [], c, q, _, h1, h2 => ⟨h1, h2, trivial⟩
  | x :: cl, c, q, h, h1, h2 => ⟨h.1, h.2.1, codeAt_snoc h.2.2 (by rw [List.length_cons] at h1; rw [← h1]; congr 1; omega) (by rw [List.length_cons] at h2; rw [← h2]; congr 1; omega)⟩
theorem codeAt_keep {C I C' I' : Nat → Int32} : ∀ {cl : zCd} {c : Nat}, codeAt C I c cl → (∀ j, c ≤ j → j < c + cl.length → C' j = C j ∧ I' j = I j) → codeAt C' I' c cl
  | [], _, _, _ => trivial
  | x :: cl, c, h, hk => ⟨(hk c (Nat.le_refl _) (by rw [List.length_cons]; omega)).1.trans h.1, (hk c (Nat.le_refl _) (by rw [List.length_cons]; omega)).2.trans h.2.1, codeAt_keep h.2.2 (fun j h1 h2 => hk j (by omega) (by rw [List.length_cons]; omega))⟩
theorem codeAt_app {C I : Nat → Int32} : ∀ {a b : zCd} {c : Nat}, codeAt C I c a → codeAt C I (c + a.length) b → codeAt C I c (a ++ b)
  | [], b, c, _, h => h
  | x :: a, b, c, h, h2 => ⟨h.1, h.2.1, codeAt_app h.2.2 (by rw [List.length_cons] at h2; rw [show c + 1 + a.length = c + (a.length + 1) by omega]; exact h2)⟩
section MXX
variable {l : Launch} {E : zE} {b z : Nat} {h : Nat → Option zSh} {S : Nat → Nat → Int32} {L : Nat → Nat → Int64} {A : List zTk} {st : zPR zCu}
def emS (b : Nat) (S : Nat → Nat → Int32) (c k : Nat) (v : Int32) : Nat → Nat → Int32 := zu (zu (zu S (b + 31) c (nI k)) (b + 32) c v) b 45 (nI (c + 1))
theorem emS_fr {c k : Nat} {v : Int32} : zfr [31, 32] [45] b S (emS b S c k v) := ((zfr.rf.row (by decide) (by decide)).row (by decide) (by decide)).fld (by decide)
theorem zX10_emit (hM : isM h b) {c k : Nat} {v : Int32} (h45 : S b 45 = nI c) (hc : c < 840) :
    zM l E 0 YX10_emit [.ref b, .int (nI k), .int v] (z, h, S, L) 0 0 (fun r X => r = none ∧ X = (z, h, emS b S c k v, L)) (fun _ _ => False) := by
  refine zM.go rfl rfl (Nat.le_of_ble_eq_true rfl) (ls := [some (.ref b), some (.int (nI k)), some (.int v)]) rfl ?_
  intro V hVl hVE hVd hVc hVs hVQ hVX
  refine sX10_emit_0 _ _ _ _ _ ?_
  simp (disch := omega) only [oAld, oAst1, oBin, oDup, oGI, oGR, oIld, oPI, oPush, oRV, hM.1, hM.r46, hM.t46, hM.n46, hM.r47, hM.t47, hM.n47, h45, List.getElem?_cons_zero, List.getElem?_cons_succ, List.set_cons_zero, List.set_cons_succ, List.drop_succ_cons, List.drop_zero, List.take_succ_cons, List.take_zero, List.length_cons, List.length_nil, List.reverse_cons, List.reverse_nil, List.nil_append, List.cons_append, Option.toList_some, Option.toList_none, va_rf_s, true_and, and_true, true_implies, false_implies, not_true_eq_false, not_false_eq_true, Nat.reduceAdd, Nat.reduceLeDiff, Nat.le_add_left, Nat.zero_le, Nat.le_refl, znew, true_or, or_true, b01_t, b01_f, b01_ok, bool_ft, vp_b01, vp_b0, vp_b1, b01_eq0, b01_eq1, implies_true, nI_add, nI_clamp, zi_in, zi_le_t, zi_le_f, zi_lt_t, zi_lt_f, zi_eq_t, zi_eq_f, nI_leI, nI_ltI, nI_eq, z_in, pk_mul, zu_same, zu_rw, zu_ix, zi_ne0, zi_sub, zi_m1, Nat.add_sub_cancel, Nat.reduceMul, Nat.reduceSub]
  exact hVQ _ _ ⟨rfl, rfl⟩
/-- code from c on, as it grows: rows 31, 32 are as before but from c to d -/
def cdF (b : Nat) (S S' : Nat → Nat → Int32) (c d : Nat) : Prop := ∀ j, j < c ∨ d ≤ j → S' (b + 31) j = S (b + 31) j ∧ S' (b + 32) j = S (b + 32) j
theorem emS_cd {c k : Nat} {v : Int32} : cdF b S (emS b S c k v) c (c + 1) := by
  intro j hj
  unfold emS
  constructor
  · simp (disch := omega) only [List.getElem?_cons_zero, List.getElem?_cons_succ, List.set_cons_zero, List.set_cons_succ, List.drop_succ_cons, List.drop_zero, List.take_succ_cons, List.take_zero, List.length_cons, List.length_nil, List.reverse_cons, List.reverse_nil, List.nil_append, List.cons_append, Option.toList_some, Option.toList_none, va_rf_s, true_and, and_true, true_implies, false_implies, not_true_eq_false, not_false_eq_true, Nat.reduceAdd, Nat.reduceLeDiff, Nat.le_add_left, Nat.zero_le, Nat.le_refl, znew, true_or, or_true, b01_t, b01_f, b01_ok, bool_ft, vp_b01, vp_b0, vp_b1, b01_eq0, b01_eq1, implies_true, nI_add, nI_clamp, zi_in, zi_le_t, zi_le_f, zi_lt_t, zi_lt_f, zi_eq_t, zi_eq_f, nI_leI, nI_ltI, nI_eq, z_in, pk_mul, zu_same, zu_rw, zu_ix, zi_ne0, zi_sub, zi_m1, Nat.add_sub_cancel, Nat.reduceMul, Nat.reduceSub, ]
  · simp (disch := omega) only [List.getElem?_cons_zero, List.getElem?_cons_succ, List.set_cons_zero, List.set_cons_succ, List.drop_succ_cons, List.drop_zero, List.take_succ_cons, List.take_zero, List.length_cons, List.length_nil, List.reverse_cons, List.reverse_nil, List.nil_append, List.cons_append, Option.toList_some, Option.toList_none, va_rf_s, true_and, and_true, true_implies, false_implies, not_true_eq_false, not_false_eq_true, Nat.reduceAdd, Nat.reduceLeDiff, Nat.le_add_left, Nat.zero_le, Nat.le_refl, znew, true_or, or_true, b01_t, b01_f, b01_ok, bool_ft, vp_b01, vp_b0, vp_b1, b01_eq0, b01_eq1, implies_true, nI_add, nI_clamp, zi_in, zi_le_t, zi_le_f, zi_lt_t, zi_lt_f, zi_eq_t, zi_eq_f, nI_leI, nI_ltI, nI_eq, z_in, pk_mul, zu_same, zu_rw, zu_ix, zi_ne0, zi_sub, zi_m1, Nat.add_sub_cancel, Nat.reduceMul, Nat.reduceSub, ]
theorem emS_45 {c k : Nat} {v : Int32} : emS b S c k v b 45 = nI (c + 1) := by unfold emS; simp (disch := omega) only [List.getElem?_cons_zero, List.getElem?_cons_succ, List.set_cons_zero, List.set_cons_succ, List.drop_succ_cons, List.drop_zero, List.take_succ_cons, List.take_zero, List.length_cons, List.length_nil, List.reverse_cons, List.reverse_nil, List.nil_append, List.cons_append, Option.toList_some, Option.toList_none, va_rf_s, true_and, and_true, true_implies, false_implies, not_true_eq_false, not_false_eq_true, Nat.reduceAdd, Nat.reduceLeDiff, Nat.le_add_left, Nat.zero_le, Nat.le_refl, znew, true_or, or_true, b01_t, b01_f, b01_ok, bool_ft, vp_b01, vp_b0, vp_b1, b01_eq0, b01_eq1, implies_true, nI_add, nI_clamp, zi_in, zi_le_t, zi_le_f, zi_lt_t, zi_lt_f, zi_eq_t, zi_eq_f, nI_leI, nI_ltI, nI_eq, z_in, pk_mul, zu_same, zu_rw, zu_ix, zi_ne0, zi_sub, zi_m1, Nat.add_sub_cancel, Nat.reduceMul, Nat.reduceSub, ]
theorem emS_31 {c k : Nat} {v : Int32} : emS b S c k v (b + 31) c = nI k ∧ emS b S c k v (b + 32) c = v := by
  unfold emS
  constructor
  · simp (disch := omega) only [List.getElem?_cons_zero, List.getElem?_cons_succ, List.set_cons_zero, List.set_cons_succ, List.drop_succ_cons, List.drop_zero, List.take_succ_cons, List.take_zero, List.length_cons, List.length_nil, List.reverse_cons, List.reverse_nil, List.nil_append, List.cons_append, Option.toList_some, Option.toList_none, va_rf_s, true_and, and_true, true_implies, false_implies, not_true_eq_false, not_false_eq_true, Nat.reduceAdd, Nat.reduceLeDiff, Nat.le_add_left, Nat.zero_le, Nat.le_refl, znew, true_or, or_true, b01_t, b01_f, b01_ok, bool_ft, vp_b01, vp_b0, vp_b1, b01_eq0, b01_eq1, implies_true, nI_add, nI_clamp, zi_in, zi_le_t, zi_le_f, zi_lt_t, zi_lt_f, zi_eq_t, zi_eq_f, nI_leI, nI_ltI, nI_eq, z_in, pk_mul, zu_same, zu_rw, zu_ix, zi_ne0, zi_sub, zi_m1, Nat.add_sub_cancel, Nat.reduceMul, Nat.reduceSub, ]
  · simp (disch := omega) only [List.getElem?_cons_zero, List.getElem?_cons_succ, List.set_cons_zero, List.set_cons_succ, List.drop_succ_cons, List.drop_zero, List.take_succ_cons, List.take_zero, List.length_cons, List.length_nil, List.reverse_cons, List.reverse_nil, List.nil_append, List.cons_append, Option.toList_some, Option.toList_none, va_rf_s, true_and, and_true, true_implies, false_implies, not_true_eq_false, not_false_eq_true, Nat.reduceAdd, Nat.reduceLeDiff, Nat.le_add_left, Nat.zero_le, Nat.le_refl, znew, true_or, or_true, b01_t, b01_f, b01_ok, bool_ft, vp_b01, vp_b0, vp_b1, b01_eq0, b01_eq1, implies_true, nI_add, nI_clamp, zi_in, zi_le_t, zi_le_f, zi_lt_t, zi_lt_f, zi_eq_t, zi_eq_f, nI_leI, nI_ltI, nI_eq, z_in, pk_mul, zu_same, zu_rw, zu_ix, zi_ne0, zi_sub, zi_m1, Nat.add_sub_cancel, Nat.reduceMul, Nat.reduceSub, ]
theorem cdF.tr {S' S'' : Nat → Nat → Int32} {c d e : Nat} (h1 : cdF b S S' c d) (h2 : cdF b S' S'' d e) (hcd : c ≤ d) (hde : d ≤ e) : cdF b S S'' c e := by
  intro j hj
  have q1 := h1 j (by omega)
  have q2 := h2 j (by omega)
  exact ⟨q2.1.trans q1.1, q2.2.trans q1.2⟩
theorem zX10_comesOut (hM : isM h b) (s : Bool) : ∀ (W : List Nat) (S : Nat → Nat → Int32) (c : Nat), (∀ w ∈ W, w < 100) → S b 49 = nI W.length → wAt (S (b + 33)) W → W.length < 64 → S b 45 = nI c → c + opC W < 840 →
    ∀ (V : zV) (x2 : Option Value), V.1 = l → V.2.1 = E → V.2.2.1 = 1 → V.2.2.2.1 = 0 → V.2.2.2.2.1 = 0 → (∀ S', zfr [31, 32] [45, 49] b S S' → S' b 49 = nI (poR s W).length → S' b 45 = nI (c + (poC s W).length) → codeAt (S' (b + 31)) (S' (b + 32)) c (poC s W) → cdF b S S' c (c + (poC s W).length) → V.2.2.2.2.2.1 none (z, h, S', L)) → zW V YX10_comesOut 0 [some (.ref b), some (.int (b01 s)), x2] [] (z, h, S, L) 0 0 := by
  intro W
  induction W with
  | nil =>
    intro S c hw h49 hW hl h45 hc V x2 hVl hVE hVd hVc hVs hVQ
    refine sX10_comesOut_0 _ _ _ _ _ ?_
    simp (disch := omega) only [oAld, oAld1, oBin, oGI, oGR, oIf, oIfc, oIld, oIst, oPush, oRV, hM.1, hM.r48, hM.t48, hM.n48, h49, List.getElem?_cons_zero, List.getElem?_cons_succ, List.set_cons_zero, List.set_cons_succ, List.drop_succ_cons, List.drop_zero, List.take_succ_cons, List.take_zero, List.length_cons, List.length_nil, List.reverse_cons, List.reverse_nil, List.nil_append, List.cons_append, Option.toList_some, Option.toList_none, va_rf_s, true_and, and_true, true_implies, false_implies, not_true_eq_false, not_false_eq_true, Nat.reduceAdd, Nat.reduceLeDiff, Nat.le_add_left, Nat.zero_le, Nat.le_refl, znew, true_or, or_true, b01_t, b01_f, b01_ok, bool_ft, vp_b01, vp_b0, vp_b1, b01_eq0, b01_eq1, implies_true, nI_add, nI_clamp, zi_in, zi_le_t, zi_le_f, zi_lt_t, zi_lt_f, zi_eq_t, zi_eq_f, nI_leI, nI_ltI, nI_eq, z_in, pk_mul, zu_same, zu_rw, zu_ix, zi_ne0, zi_sub, zi_m1, Nat.add_sub_cancel, Nat.reduceMul, Nat.reduceSub]
    exact hVQ S zfr.rf h49 h45 trivial (fun j _ => ⟨rfl, rfl⟩)
  | cons w r ih =>
    intro S c hw h49 hW hl h45 hc V x2 hVl hVE hVd hVc hVs hVQ
    rw [List.length_cons] at h49 hl
    have hw1 := hw w (List.mem_cons_self ..)
    have e1 := hW.1
    by_cases hs : stopB s w = true
    · rw [poR, poC, if_pos hs, if_pos hs, List.length_cons] at hVQ
      have fin := hVQ S zfr.rf h49 h45 trivial (fun j _ => ⟨rfl, rfl⟩)
      by_cases h6 : w = 6
      · refine sX10_comesOut_0 _ _ _ _ _ ?_
        simp (disch := omega) only [oAld, oAld1, oBin, oGI, oGR, oIf, oIfc, oIld, oIst, oPush, oRV, hM.1, hM.r48, hM.t48, hM.n48, h49, e1, List.getElem?_cons_zero, List.getElem?_cons_succ, List.set_cons_zero, List.set_cons_succ, List.drop_succ_cons, List.drop_zero, List.take_succ_cons, List.take_zero, List.length_cons, List.length_nil, List.reverse_cons, List.reverse_nil, List.nil_append, List.cons_append, Option.toList_some, Option.toList_none, va_rf_s, true_and, and_true, true_implies, false_implies, not_true_eq_false, not_false_eq_true, Nat.reduceAdd, Nat.reduceLeDiff, Nat.le_add_left, Nat.zero_le, Nat.le_refl, znew, true_or, or_true, b01_t, b01_f, b01_ok, bool_ft, vp_b01, vp_b0, vp_b1, b01_eq0, b01_eq1, implies_true, nI_add, nI_clamp, zi_in, zi_le_t, zi_le_f, zi_lt_t, zi_lt_f, zi_eq_t, zi_eq_f, nI_leI, nI_ltI, nI_eq, z_in, pk_mul, zu_same, zu_rw, zu_ix, zi_ne0, zi_sub, zi_m1, Nat.add_sub_cancel, Nat.reduceMul, Nat.reduceSub]
        exact fin
      · have hs2 : s = true ∧ (w = 8 ∨ w = 9) := by
          simp [stopB, h6] at hs; exact hs
        obtain ⟨rfl, hw8⟩ := hs2
        by_cases h8 : w = 8
        · refine sX10_comesOut_0 _ _ _ _ _ ?_
          simp (disch := omega) only [oAld, oAld1, oBin, oGI, oGR, oIf, oIfc, oIld, oIst, oPush, oRV, hM.1, hM.r48, hM.t48, hM.n48, h49, e1, List.getElem?_cons_zero, List.getElem?_cons_succ, List.set_cons_zero, List.set_cons_succ, List.drop_succ_cons, List.drop_zero, List.take_succ_cons, List.take_zero, List.length_cons, List.length_nil, List.reverse_cons, List.reverse_nil, List.nil_append, List.cons_append, Option.toList_some, Option.toList_none, va_rf_s, true_and, and_true, true_implies, false_implies, not_true_eq_false, not_false_eq_true, Nat.reduceAdd, Nat.reduceLeDiff, Nat.le_add_left, Nat.zero_le, Nat.le_refl, znew, true_or, or_true, b01_t, b01_f, b01_ok, bool_ft, vp_b01, vp_b0, vp_b1, b01_eq0, b01_eq1, implies_true, nI_add, nI_clamp, zi_in, zi_le_t, zi_le_f, zi_lt_t, zi_lt_f, zi_eq_t, zi_eq_f, nI_leI, nI_ltI, nI_eq, z_in, pk_mul, zu_same, zu_rw, zu_ix, zi_ne0, zi_sub, zi_m1, Nat.add_sub_cancel, Nat.reduceMul, Nat.reduceSub]
          exact fin
        · have h9 : w = 9 := by omega
          refine sX10_comesOut_0 _ _ _ _ _ ?_
          simp (disch := omega) only [oAld, oAld1, oBin, oGI, oGR, oIf, oIfc, oIld, oIst, oPush, oRV, hM.1, hM.r48, hM.t48, hM.n48, h49, e1, List.getElem?_cons_zero, List.getElem?_cons_succ, List.set_cons_zero, List.set_cons_succ, List.drop_succ_cons, List.drop_zero, List.take_succ_cons, List.take_zero, List.length_cons, List.length_nil, List.reverse_cons, List.reverse_nil, List.nil_append, List.cons_append, Option.toList_some, Option.toList_none, va_rf_s, true_and, and_true, true_implies, false_implies, not_true_eq_false, not_false_eq_true, Nat.reduceAdd, Nat.reduceLeDiff, Nat.le_add_left, Nat.zero_le, Nat.le_refl, znew, true_or, or_true, b01_t, b01_f, b01_ok, bool_ft, vp_b01, vp_b0, vp_b1, b01_eq0, b01_eq1, implies_true, nI_add, nI_clamp, zi_in, zi_le_t, zi_le_f, zi_lt_t, zi_lt_f, zi_eq_t, zi_eq_f, nI_leI, nI_ltI, nI_eq, z_in, pk_mul, zu_same, zu_rw, zu_ix, zi_ne0, zi_sub, zi_m1, Nat.add_sub_cancel, Nat.reduceMul, Nat.reduceSub]
          exact fin
    · have h6 : w ≠ 6 := fun e => hs (by simp [stopB, e])
      have hoc : opC (w :: r) = opC r + 1 := by rw [opC, if_neg h6]
      rw [hoc] at hc
      rw [poR, poC, if_neg hs, if_neg hs] at hVQ
      have next : ∀ x, zC V YX10_emit [.ref b, .int (nI (opN w)), .int (nI 0)] (z, h, zu S b 49 (nI r.length), L) 0 0 (fun v X' k' n' => zW V YX10_comesOut 88 [some (.ref b), some (.int (b01 s)), x] (v.toList ++ []) X' k' n') (zOut V [some (.ref b), some (.int (b01 s)), x]) := by
        intro x
        have h45' : zu S b 49 (nI r.length) b 45 = nI c := by simp (disch := omega) only [List.getElem?_cons_zero, List.getElem?_cons_succ, List.set_cons_zero, List.set_cons_succ, List.drop_succ_cons, List.drop_zero, List.take_succ_cons, List.take_zero, List.length_cons, List.length_nil, List.reverse_cons, List.reverse_nil, List.nil_append, List.cons_append, Option.toList_some, Option.toList_none, va_rf_s, true_and, and_true, true_implies, false_implies, not_true_eq_false, not_false_eq_true, Nat.reduceAdd, Nat.reduceLeDiff, Nat.le_add_left, Nat.zero_le, Nat.le_refl, znew, true_or, or_true, b01_t, b01_f, b01_ok, bool_ft, vp_b01, vp_b0, vp_b1, b01_eq0, b01_eq1, implies_true, nI_add, nI_clamp, zi_in, zi_le_t, zi_le_f, zi_lt_t, zi_lt_f, zi_eq_t, zi_eq_f, nI_leI, nI_ltI, nI_eq, z_in, pk_mul, zu_same, zu_rw, zu_ix, zi_ne0, zi_sub, zi_m1, Nat.add_sub_cancel, Nat.reduceMul, Nat.reduceSub, h45]
        refine zC.of0 (zX10_emit hM h45' (by omega)) (by omega) (Nat.zero_le _) (Nat.zero_le _) ?_
        rintro _ _ ⟨rfl, rfl⟩
        have hf0 : zfr [31, 32] [45, 49] b S (emS b (zu S b 49 (nI r.length)) c (opN w) (nI 0)) := (zfr.rf.fld (F := [45, 49]) (D := [31, 32]) (by decide)).tr emS_fr rfl rfl rfl rfl
        refine sX10_comesOut_88 _ _ _ _ _ ?_
        simp (disch := omega) only [oNop, List.getElem?_cons_zero, List.getElem?_cons_succ, List.set_cons_zero, List.set_cons_succ, List.drop_succ_cons, List.drop_zero, List.take_succ_cons, List.take_zero, List.length_cons, List.length_nil, List.reverse_cons, List.reverse_nil, List.nil_append, List.cons_append, Option.toList_some, Option.toList_none, va_rf_s, true_and, and_true, true_implies, false_implies, not_true_eq_false, not_false_eq_true, Nat.reduceAdd, Nat.reduceLeDiff, Nat.le_add_left, Nat.zero_le, Nat.le_refl, znew, true_or, or_true, b01_t, b01_f, b01_ok, bool_ft, vp_b01, vp_b0, vp_b1, b01_eq0, b01_eq1, implies_true, nI_add, nI_clamp, zi_in, zi_le_t, zi_le_f, zi_lt_t, zi_lt_f, zi_eq_t, zi_eq_f, nI_leI, nI_ltI, nI_eq, z_in, pk_mul, zu_same, zu_rw, zu_ix, zi_ne0, zi_sub, zi_m1, Nat.add_sub_cancel, Nat.reduceMul, Nat.reduceSub]
        refine ih (emS b (zu S b 49 (nI r.length)) c (opN w) (nI 0)) (c + 1) (fun w hw2 => hw w (List.mem_cons_of_mem _ hw2)) ?_ ?_ (by omega) emS_45 (by omega) V _ hVl hVE hVd hVc hVs ?_
        · rw [emS_fr.f rfl]; simp (disch := omega) only [List.getElem?_cons_zero, List.getElem?_cons_succ, List.set_cons_zero, List.set_cons_succ, List.drop_succ_cons, List.drop_zero, List.take_succ_cons, List.take_zero, List.length_cons, List.length_nil, List.reverse_cons, List.reverse_nil, List.nil_append, List.cons_append, Option.toList_some, Option.toList_none, va_rf_s, true_and, and_true, true_implies, false_implies, not_true_eq_false, not_false_eq_true, Nat.reduceAdd, Nat.reduceLeDiff, Nat.le_add_left, Nat.zero_le, Nat.le_refl, znew, true_or, or_true, b01_t, b01_f, b01_ok, bool_ft, vp_b01, vp_b0, vp_b1, b01_eq0, b01_eq1, implies_true, nI_add, nI_clamp, zi_in, zi_le_t, zi_le_f, zi_lt_t, zi_lt_f, zi_eq_t, zi_eq_f, nI_leI, nI_ltI, nI_eq, z_in, pk_mul, zu_same, zu_rw, zu_ix, zi_ne0, zi_sub, zi_m1, Nat.add_sub_cancel, Nat.reduceMul, Nat.reduceSub, ]
        · rw [emS_fr.at (o := 33) rfl rfl, zu_rw _ _ (by omega)]; exact hW.2
        · intro S' hf h49' h45'' hca hcd
          have hcd0 : cdF b S (emS b (zu S b 49 (nI r.length)) c (opN w) (nI 0)) c (c + 1) := by
            intro j hj
            have := emS_cd (b := b) (S := zu S b 49 (nI r.length)) (c := c) (k := opN w) (v := nI 0) j hj
            rw [zu_rw _ _ (by omega), zu_rw _ _ (by omega)] at this
            exact this
          have hlen : c + 1 + (poC s r).length = c + (poC s r).length + 1 := by omega
          refine hVQ S' (hf0.tt hf) h49' (by rw [h45'', List.length_cons, hlen]; rfl) ⟨?_, ?_, hca⟩ ?_
          · exact (hcd c (by omega)).1.trans emS_31.1
          · exact (hcd c (by omega)).2.trans emS_31.2
          · rw [List.length_cons, ← show c + 1 + (poC s r).length = c + ((poC s r).length + 1) by omega]
            exact hcd0.tr hcd (by omega) (by omega)
      have h42 : zW V YX10_comesOut 42 [some (.ref b), some (.int (b01 s)), some (.int (nI w))] [] (z, h, S, L) 0 0 := by
        by_cases h8 : w = 8
        · have e2 : nI 2 = nI (opN w) := by subst h8; rfl
          refine sX10_comesOut_42 _ _ _ _ _ ?_
          simp (disch := omega) only [oAld, oBin, oCV, oDup, oGI, oIfc, oIld, oNop, oPI, oPush, hM.1, h49, e2, List.getElem?_cons_zero, List.getElem?_cons_succ, List.set_cons_zero, List.set_cons_succ, List.drop_succ_cons, List.drop_zero, List.take_succ_cons, List.take_zero, List.length_cons, List.length_nil, List.reverse_cons, List.reverse_nil, List.nil_append, List.cons_append, Option.toList_some, Option.toList_none, va_rf_s, true_and, and_true, true_implies, false_implies, not_true_eq_false, not_false_eq_true, Nat.reduceAdd, Nat.reduceLeDiff, Nat.le_add_left, Nat.zero_le, Nat.le_refl, znew, true_or, or_true, b01_t, b01_f, b01_ok, bool_ft, vp_b01, vp_b0, vp_b1, b01_eq0, b01_eq1, implies_true, nI_add, nI_clamp, zi_in, zi_le_t, zi_le_f, zi_lt_t, zi_lt_f, zi_eq_t, zi_eq_f, nI_leI, nI_ltI, nI_eq, z_in, pk_mul, zu_same, zu_rw, zu_ix, zi_ne0, zi_sub, zi_m1, Nat.add_sub_cancel, Nat.reduceMul, Nat.reduceSub]
          exact next _
        · by_cases h9 : w = 9
          · have e2 : nI 3 = nI (opN w) := by subst h9; rfl
            refine sX10_comesOut_42 _ _ _ _ _ ?_
            simp (disch := omega) only [oAld, oBin, oCV, oDup, oGI, oIfc, oIld, oNop, oPI, oPush, hM.1, h49, e2, List.getElem?_cons_zero, List.getElem?_cons_succ, List.set_cons_zero, List.set_cons_succ, List.drop_succ_cons, List.drop_zero, List.take_succ_cons, List.take_zero, List.length_cons, List.length_nil, List.reverse_cons, List.reverse_nil, List.nil_append, List.cons_append, Option.toList_some, Option.toList_none, va_rf_s, true_and, and_true, true_implies, false_implies, not_true_eq_false, not_false_eq_true, Nat.reduceAdd, Nat.reduceLeDiff, Nat.le_add_left, Nat.zero_le, Nat.le_refl, znew, true_or, or_true, b01_t, b01_f, b01_ok, bool_ft, vp_b01, vp_b0, vp_b1, b01_eq0, b01_eq1, implies_true, nI_add, nI_clamp, zi_in, zi_le_t, zi_le_f, zi_lt_t, zi_lt_f, zi_eq_t, zi_eq_f, nI_leI, nI_ltI, nI_eq, z_in, pk_mul, zu_same, zu_rw, zu_ix, zi_ne0, zi_sub, zi_m1, Nat.add_sub_cancel, Nat.reduceMul, Nat.reduceSub]
            exact next _
          · by_cases h10 : w = 10
            · have e2 : nI 4 = nI (opN w) := by subst h10; rfl
              refine sX10_comesOut_42 _ _ _ _ _ ?_
              simp (disch := omega) only [oAld, oBin, oCV, oDup, oGI, oIfc, oIld, oNop, oPI, oPush, hM.1, h49, e2, List.getElem?_cons_zero, List.getElem?_cons_succ, List.set_cons_zero, List.set_cons_succ, List.drop_succ_cons, List.drop_zero, List.take_succ_cons, List.take_zero, List.length_cons, List.length_nil, List.reverse_cons, List.reverse_nil, List.nil_append, List.cons_append, Option.toList_some, Option.toList_none, va_rf_s, true_and, and_true, true_implies, false_implies, not_true_eq_false, not_false_eq_true, Nat.reduceAdd, Nat.reduceLeDiff, Nat.le_add_left, Nat.zero_le, Nat.le_refl, znew, true_or, or_true, b01_t, b01_f, b01_ok, bool_ft, vp_b01, vp_b0, vp_b1, b01_eq0, b01_eq1, implies_true, nI_add, nI_clamp, zi_in, zi_le_t, zi_le_f, zi_lt_t, zi_lt_f, zi_eq_t, zi_eq_f, nI_leI, nI_ltI, nI_eq, z_in, pk_mul, zu_same, zu_rw, zu_ix, zi_ne0, zi_sub, zi_m1, Nat.add_sub_cancel, Nat.reduceMul, Nat.reduceSub]
              exact next _
            · have e2 : nI 5 = nI (opN w) := by unfold opN; rw [if_neg h8, if_neg h9, if_neg h10]
              refine sX10_comesOut_42 _ _ _ _ _ ?_
              simp (disch := omega) only [oAld, oBin, oCV, oDup, oGI, oIfc, oIld, oNop, oPI, oPush, hM.1, h49, e2, List.getElem?_cons_zero, List.getElem?_cons_succ, List.set_cons_zero, List.set_cons_succ, List.drop_succ_cons, List.drop_zero, List.take_succ_cons, List.take_zero, List.length_cons, List.length_nil, List.reverse_cons, List.reverse_nil, List.nil_append, List.cons_append, Option.toList_some, Option.toList_none, va_rf_s, true_and, and_true, true_implies, false_implies, not_true_eq_false, not_false_eq_true, Nat.reduceAdd, Nat.reduceLeDiff, Nat.le_add_left, Nat.zero_le, Nat.le_refl, znew, true_or, or_true, b01_t, b01_f, b01_ok, bool_ft, vp_b01, vp_b0, vp_b1, b01_eq0, b01_eq1, implies_true, nI_add, nI_clamp, zi_in, zi_le_t, zi_le_f, zi_lt_t, zi_lt_f, zi_eq_t, zi_eq_f, nI_leI, nI_ltI, nI_eq, z_in, pk_mul, zu_same, zu_rw, zu_ix, zi_ne0, zi_sub, zi_m1, Nat.add_sub_cancel, Nat.reduceMul, Nat.reduceSub]
              exact next _
      cases s with
      | false =>
        refine sX10_comesOut_0 _ _ _ _ _ ?_
        simp (disch := omega) only [oAld, oAld1, oBin, oGI, oGR, oIf, oIfc, oIld, oIst, oPush, oRV, hM.1, hM.r48, hM.t48, hM.n48, h49, e1, List.getElem?_cons_zero, List.getElem?_cons_succ, List.set_cons_zero, List.set_cons_succ, List.drop_succ_cons, List.drop_zero, List.take_succ_cons, List.take_zero, List.length_cons, List.length_nil, List.reverse_cons, List.reverse_nil, List.nil_append, List.cons_append, Option.toList_some, Option.toList_none, va_rf_s, true_and, and_true, true_implies, false_implies, not_true_eq_false, not_false_eq_true, Nat.reduceAdd, Nat.reduceLeDiff, Nat.le_add_left, Nat.zero_le, Nat.le_refl, znew, true_or, or_true, b01_t, b01_f, b01_ok, bool_ft, vp_b01, vp_b0, vp_b1, b01_eq0, b01_eq1, implies_true, nI_add, nI_clamp, zi_in, zi_le_t, zi_le_f, zi_lt_t, zi_lt_f, zi_eq_t, zi_eq_f, nI_leI, nI_ltI, nI_eq, z_in, pk_mul, zu_same, zu_rw, zu_ix, zi_ne0, zi_sub, zi_m1, Nat.add_sub_cancel, Nat.reduceMul, Nat.reduceSub]
        exact h42
      | true =>
        have h89 : w ≠ 8 ∧ w ≠ 9 := by
          simp [stopB, h6] at hs; exact hs
        refine sX10_comesOut_0 _ _ _ _ _ ?_
        simp (disch := omega) only [oAld, oAld1, oBin, oGI, oGR, oIf, oIfc, oIld, oIst, oPush, oRV, hM.1, hM.r48, hM.t48, hM.n48, h49, e1, List.getElem?_cons_zero, List.getElem?_cons_succ, List.set_cons_zero, List.set_cons_succ, List.drop_succ_cons, List.drop_zero, List.take_succ_cons, List.take_zero, List.length_cons, List.length_nil, List.reverse_cons, List.reverse_nil, List.nil_append, List.cons_append, Option.toList_some, Option.toList_none, va_rf_s, true_and, and_true, true_implies, false_implies, not_true_eq_false, not_false_eq_true, Nat.reduceAdd, Nat.reduceLeDiff, Nat.le_add_left, Nat.zero_le, Nat.le_refl, znew, true_or, or_true, b01_t, b01_f, b01_ok, bool_ft, vp_b01, vp_b0, vp_b1, b01_eq0, b01_eq1, implies_true, nI_add, nI_clamp, zi_in, zi_le_t, zi_le_f, zi_lt_t, zi_lt_f, zi_eq_t, zi_eq_f, nI_leI, nI_ltI, nI_eq, z_in, pk_mul, zu_same, zu_rw, zu_ix, zi_ne0, zi_sub, zi_m1, Nat.add_sub_cancel, Nat.reduceMul, Nat.reduceSub]
        exact h42
/-- as a contract -/
theorem zX10_comesOutM (hM : isM h b) (s : Bool) {W : List Nat} {c : Nat} (hw : ∀ w ∈ W, w < 100) (h49 : S b 49 = nI W.length) (hW : wAt (S (b + 33)) W) (hl : W.length < 64) (h45 : S b 45 = nI c) (hc : c + opC W < 840) :
    zM l E 1 YX10_comesOut [.ref b, .int (b01 s)] (z, h, S, L) 0 0 (fun r X => r = none ∧ ∃ S', X = (z, h, S', L) ∧ zfr [31, 32] [45, 49] b S S' ∧ S' b 49 = nI (poR s W).length ∧ S' b 45 = nI (c + (poC s W).length) ∧ codeAt (S' (b + 31)) (S' (b + 32)) c (poC s W) ∧ cdF b S S' c (c + (poC s W).length)) (fun _ _ => False) := by
  refine zM.go rfl rfl (Nat.le_of_ble_eq_true rfl) (ls := [some (.ref b), some (.int (b01 s)), none]) rfl ?_
  intro V hVl hVE hVd hVc hVs hVQ hVX
  exact zX10_comesOut hM s W S c hw h49 hW hl h45 hc V none hVl hVE hVd hVc hVs (fun S' q1 q2 q3 q4 q5 => hVQ _ _ ⟨rfl, S', rfl, q1, q2, q3, q4, q5⟩)
/-- unit: of one number, one variable; else a fault -/
def pUn (A : List zTk) (q : zCu) : zPR (zCd × zCu) :=
  if tkK A q.1 = 2 then pB (pGo A q) (fun q' => .ok ([(0, nI (tkV A q.1))], q'))
  else if 34 ≤ tkK A q.1 ∧ tkK A q.1 ≤ 42 then pB (pGo A q) (fun q' => .ok ([(1, nI (tkK A q.1 - 34))], q'))
  else pErr A 1 q.1
theorem zX10_unit (hM : isM h b) (hA : tkW A) (hC : mC b S L A st) {c : Nat} (h45 : S b 45 = nI c) (hc : c < 840) :
    zM l E 2 YX10_unit [.ref b] (z, h, S, L) 0 0 (fun r X => r = none ∧ ∃ S' d, X = (z, h, S', L) ∧ zfr [31, 32] [11, 13, 14, 45] b S S' ∧ mC b S' L A (pV (pB st (pUn A))) ∧ cdF b S S' c d ∧ (S' b 45 = nI d ∧ c ≤ d ∧ d ≤ c + 1) ∧ ∀ cl q, pB st (pUn A) = .ok (cl, q) → d = c + cl.length ∧ codeAt (S' (b + 31)) (S' (b + 32)) c cl) (fun _ _ => False) := by
  refine zM.go rfl rfl (Nat.le_of_ble_eq_true rfl) (ls := [some (.ref b)]) rfl ?_
  intro V hVl hVE hVd hVc hVs hVQ hVX
  have go : ∀ (S1 : Nat → Nat → Int32), zfr [] [13, 14] b S S1 → zfr [31, 32] [11, 13, 14, 45] b S S1 := fun S1 h1 => h1.tr zfr.rf rfl rfl (D' := []) (F' := []) rfl rfl
  refine sX10_unit_0 _ _ _ _ _ ?_
  simp (disch := omega) only [oAld, oCV, oPush, hM.1, List.getElem?_cons_zero, List.getElem?_cons_succ, List.set_cons_zero, List.set_cons_succ, List.drop_succ_cons, List.drop_zero, List.take_succ_cons, List.take_zero, List.length_cons, List.length_nil, List.reverse_cons, List.reverse_nil, List.nil_append, List.cons_append, Option.toList_some, Option.toList_none, va_rf_s, true_and, and_true, true_implies, false_implies, not_true_eq_false, not_false_eq_true, Nat.reduceAdd, Nat.reduceLeDiff, Nat.le_add_left, Nat.zero_le, Nat.le_refl, znew, true_or, or_true, b01_t, b01_f, b01_ok, bool_ft, vp_b01, vp_b0, vp_b1, b01_eq0, b01_eq1, implies_true, nI_add, nI_clamp, zi_in, zi_le_t, zi_le_f, zi_lt_t, zi_lt_f, zi_eq_t, zi_eq_f, nI_leI, nI_ltI, nI_eq, z_in, pk_mul, zu_same, zu_rw, zu_ix, zi_ne0, zi_sub, zi_m1, Nat.add_sub_cancel, Nat.reduceMul, Nat.reduceSub]
  refine zC.of0 (zX10_is hM hA hC (by omega)) (by omega) (Nat.zero_le _) (Nat.zero_le _) ?_
  rintro _ _ ⟨rfl, rfl⟩
  cases st with
  | error e =>
    obtain ⟨-, h13, he, he5, -⟩ := id hC
    refine sX10_unit_5 _ _ _ _ _ ?_
    simp (disch := omega) only [oAld, oAld1, oBin, oCV, oGI, oGR, oIf, oIfc, oPush, hM.1, hM.r5, hM.t5, hM.n5, hM.r7, hM.t7, hM.n7, isB, h13, List.getElem?_cons_zero, List.getElem?_cons_succ, List.set_cons_zero, List.set_cons_succ, List.drop_succ_cons, List.drop_zero, List.take_succ_cons, List.take_zero, List.length_cons, List.length_nil, List.reverse_cons, List.reverse_nil, List.nil_append, List.cons_append, Option.toList_some, Option.toList_none, va_rf_s, true_and, and_true, true_implies, false_implies, not_true_eq_false, not_false_eq_true, Nat.reduceAdd, Nat.reduceLeDiff, Nat.le_add_left, Nat.zero_le, Nat.le_refl, znew, true_or, or_true, b01_t, b01_f, b01_ok, bool_ft, vp_b01, vp_b0, vp_b1, b01_eq0, b01_eq1, implies_true, nI_add, nI_clamp, zi_in, zi_le_t, zi_le_f, zi_lt_t, zi_lt_f, zi_eq_t, zi_eq_f, nI_leI, nI_ltI, nI_eq, z_in, pk_mul, zu_same, zu_rw, zu_ix, zi_ne0, zi_sub, zi_m1, Nat.add_sub_cancel, Nat.reduceMul, Nat.reduceSub]
    refine zC.of0 (zX10_fail hM hC (by omega) (by omega)) (by omega) (Nat.zero_le _) (Nat.zero_le _) ?_
    rintro _ _ ⟨rfl, S1, rfl, hf1, hC1⟩
    refine sX10_unit_93 _ _ _ _ _ ?_
    simp (disch := omega) only [oRV, List.getElem?_cons_zero, List.getElem?_cons_succ, List.set_cons_zero, List.set_cons_succ, List.drop_succ_cons, List.drop_zero, List.take_succ_cons, List.take_zero, List.length_cons, List.length_nil, List.reverse_cons, List.reverse_nil, List.nil_append, List.cons_append, Option.toList_some, Option.toList_none, va_rf_s, true_and, and_true, true_implies, false_implies, not_true_eq_false, not_false_eq_true, Nat.reduceAdd, Nat.reduceLeDiff, Nat.le_add_left, Nat.zero_le, Nat.le_refl, znew, true_or, or_true, b01_t, b01_f, b01_ok, bool_ft, vp_b01, vp_b0, vp_b1, b01_eq0, b01_eq1, implies_true, nI_add, nI_clamp, zi_in, zi_le_t, zi_le_f, zi_lt_t, zi_lt_f, zi_eq_t, zi_eq_f, nI_leI, nI_ltI, nI_eq, z_in, pk_mul, zu_same, zu_rw, zu_ix, zi_ne0, zi_sub, zi_m1, Nat.add_sub_cancel, Nat.reduceMul, Nat.reduceSub]
    exact hVQ _ _ ⟨rfl, S1, c, rfl, go S1 hf1, hC1, fun j _ => ⟨by rw [hf1.at (o := 31) rfl rfl], by rw [hf1.at (o := 32) rfl rfl]⟩, ⟨by rw [hf1.f rfl]; exact h45, Nat.le_refl _, by omega⟩, fun cl q e => by cases e⟩
  | ok q =>
    obtain ⟨hK, h13, h11, h4, hl, h15, hw5, h16⟩ := id hC
    obtain ⟨e3, -, e5, -⟩ := hC.tok hl h4
    have hk := (hA.2.2 q.1).1
    have emit1 : ∀ (k : Nat) (v : Int32), tkK A q.1 ≠ 0 → pUn A q = pB (pGo A q) (fun q' => .ok ([(k, v)], q')) → ∀ pc, pc = 22 ∨ pc = 81 → zC V YX10_emit [.ref b, .int (nI k), .int v] (z, h, S, L) 0 0 (fun r X' k' n' => zW V YX10_unit pc [some (.ref b)] (r.toList ++ []) X' k' n') (zOut V [some (.ref b)]) := by
      intro k v hk0 hp pc hpc
      refine zC.of0 (zX10_emit hM h45 hc) (by omega) (Nat.zero_le _) (Nat.zero_le _) ?_
      rintro _ _ ⟨rfl, rfl⟩
      have hC1 : mC b (emS b S c k v) L A (.ok q) := hC.frL emS_fr rfl rfl (fun _ _ => rfl)
      rw [pB_ok, hp] at hVQ
      have fin : ∀ S2, zfr [] [11, 13, 14] b (emS b S c k v) S2 → mC b S2 L A (pB (.ok q) (pGo A)) → V.2.2.2.2.2.1 none (z, h, S2, L) := by
        intro S2 hf2 hC2
        refine hVQ _ _ ⟨rfl, S2, c + 1, rfl, emS_fr.tr hf2 rfl rfl rfl rfl, ?_, ?_, ⟨by rw [hf2.f rfl]; exact emS_45, by omega, by omega⟩, ?_⟩
        · rw [pB_ok] at hC2
          have e9 : pV (pB (pGo A q) fun q' => .ok ([(k, v)], q')) = pGo A q := by
            unfold pGo; split <;> rfl
          rw [e9]; exact hC2
        · intro j hj
          rw [hf2.at (o := 31) rfl rfl, hf2.at (o := 32) rfl rfl]
          exact emS_cd j hj
        · intro cl q9 e9
          cases hg : pGo A q with
          | error e => rw [hg] at e9; cases e9
          | ok q1 =>
            rw [hg] at e9; cases e9
            refine ⟨rfl, ?_, ?_, trivial⟩
            · rw [hf2.at (o := 31) rfl rfl]; exact emS_31.1
            · rw [hf2.at (o := 32) rfl rfl]; exact emS_31.2
      rcases hpc with rfl | rfl
      · refine sX10_unit_22 _ _ _ _ _ ?_
        simp (disch := omega) only [oAld, oCV, hM.1, List.getElem?_cons_zero, List.getElem?_cons_succ, List.set_cons_zero, List.set_cons_succ, List.drop_succ_cons, List.drop_zero, List.take_succ_cons, List.take_zero, List.length_cons, List.length_nil, List.reverse_cons, List.reverse_nil, List.nil_append, List.cons_append, Option.toList_some, Option.toList_none, va_rf_s, true_and, and_true, true_implies, false_implies, not_true_eq_false, not_false_eq_true, Nat.reduceAdd, Nat.reduceLeDiff, Nat.le_add_left, Nat.zero_le, Nat.le_refl, znew, true_or, or_true, b01_t, b01_f, b01_ok, bool_ft, vp_b01, vp_b0, vp_b1, b01_eq0, b01_eq1, implies_true, nI_add, nI_clamp, zi_in, zi_le_t, zi_le_f, zi_lt_t, zi_lt_f, zi_eq_t, zi_eq_f, nI_leI, nI_ltI, nI_eq, z_in, pk_mul, zu_same, zu_rw, zu_ix, zi_ne0, zi_sub, zi_m1, Nat.add_sub_cancel, Nat.reduceMul, Nat.reduceSub]
        refine zC.of0 (zX10_goesOn hM hA hC1 (fun q' e => by cases e; exact hk0)) (by omega) (Nat.zero_le _) (Nat.zero_le _) ?_
        rintro _ _ ⟨rfl, S2, rfl, hf2, hC2⟩
        refine sX10_unit_26 _ _ _ _ _ ?_
        simp (disch := omega) only [oNop, List.getElem?_cons_zero, List.getElem?_cons_succ, List.set_cons_zero, List.set_cons_succ, List.drop_succ_cons, List.drop_zero, List.take_succ_cons, List.take_zero, List.length_cons, List.length_nil, List.reverse_cons, List.reverse_nil, List.nil_append, List.cons_append, Option.toList_some, Option.toList_none, va_rf_s, true_and, and_true, true_implies, false_implies, not_true_eq_false, not_false_eq_true, Nat.reduceAdd, Nat.reduceLeDiff, Nat.le_add_left, Nat.zero_le, Nat.le_refl, znew, true_or, or_true, b01_t, b01_f, b01_ok, bool_ft, vp_b01, vp_b0, vp_b1, b01_eq0, b01_eq1, implies_true, nI_add, nI_clamp, zi_in, zi_le_t, zi_le_f, zi_lt_t, zi_lt_f, zi_eq_t, zi_eq_f, nI_leI, nI_ltI, nI_eq, z_in, pk_mul, zu_same, zu_rw, zu_ix, zi_ne0, zi_sub, zi_m1, Nat.add_sub_cancel, Nat.reduceMul, Nat.reduceSub]
        refine sX10_unit_93 _ _ _ _ _ ?_
        simp (disch := omega) only [oRV, List.getElem?_cons_zero, List.getElem?_cons_succ, List.set_cons_zero, List.set_cons_succ, List.drop_succ_cons, List.drop_zero, List.take_succ_cons, List.take_zero, List.length_cons, List.length_nil, List.reverse_cons, List.reverse_nil, List.nil_append, List.cons_append, Option.toList_some, Option.toList_none, va_rf_s, true_and, and_true, true_implies, false_implies, not_true_eq_false, not_false_eq_true, Nat.reduceAdd, Nat.reduceLeDiff, Nat.le_add_left, Nat.zero_le, Nat.le_refl, znew, true_or, or_true, b01_t, b01_f, b01_ok, bool_ft, vp_b01, vp_b0, vp_b1, b01_eq0, b01_eq1, implies_true, nI_add, nI_clamp, zi_in, zi_le_t, zi_le_f, zi_lt_t, zi_lt_f, zi_eq_t, zi_eq_f, nI_leI, nI_ltI, nI_eq, z_in, pk_mul, zu_same, zu_rw, zu_ix, zi_ne0, zi_sub, zi_m1, Nat.add_sub_cancel, Nat.reduceMul, Nat.reduceSub]
        exact fin S2 hf2 hC2
      · refine sX10_unit_81 _ _ _ _ _ ?_
        simp (disch := omega) only [oAld, oCV, hM.1, List.getElem?_cons_zero, List.getElem?_cons_succ, List.set_cons_zero, List.set_cons_succ, List.drop_succ_cons, List.drop_zero, List.take_succ_cons, List.take_zero, List.length_cons, List.length_nil, List.reverse_cons, List.reverse_nil, List.nil_append, List.cons_append, Option.toList_some, Option.toList_none, va_rf_s, true_and, and_true, true_implies, false_implies, not_true_eq_false, not_false_eq_true, Nat.reduceAdd, Nat.reduceLeDiff, Nat.le_add_left, Nat.zero_le, Nat.le_refl, znew, true_or, or_true, b01_t, b01_f, b01_ok, bool_ft, vp_b01, vp_b0, vp_b1, b01_eq0, b01_eq1, implies_true, nI_add, nI_clamp, zi_in, zi_le_t, zi_le_f, zi_lt_t, zi_lt_f, zi_eq_t, zi_eq_f, nI_leI, nI_ltI, nI_eq, z_in, pk_mul, zu_same, zu_rw, zu_ix, zi_ne0, zi_sub, zi_m1, Nat.add_sub_cancel, Nat.reduceMul, Nat.reduceSub]
        refine zC.of0 (zX10_goesOn hM hA hC1 (fun q' e => by cases e; exact hk0)) (by omega) (Nat.zero_le _) (Nat.zero_le _) ?_
        rintro _ _ ⟨rfl, S2, rfl, hf2, hC2⟩
        refine sX10_unit_85 _ _ _ _ _ ?_
        simp (disch := omega) only [oNop, List.getElem?_cons_zero, List.getElem?_cons_succ, List.set_cons_zero, List.set_cons_succ, List.drop_succ_cons, List.drop_zero, List.take_succ_cons, List.take_zero, List.length_cons, List.length_nil, List.reverse_cons, List.reverse_nil, List.nil_append, List.cons_append, Option.toList_some, Option.toList_none, va_rf_s, true_and, and_true, true_implies, false_implies, not_true_eq_false, not_false_eq_true, Nat.reduceAdd, Nat.reduceLeDiff, Nat.le_add_left, Nat.zero_le, Nat.le_refl, znew, true_or, or_true, b01_t, b01_f, b01_ok, bool_ft, vp_b01, vp_b0, vp_b1, b01_eq0, b01_eq1, implies_true, nI_add, nI_clamp, zi_in, zi_le_t, zi_le_f, zi_lt_t, zi_lt_f, zi_eq_t, zi_eq_f, nI_leI, nI_ltI, nI_eq, z_in, pk_mul, zu_same, zu_rw, zu_ix, zi_ne0, zi_sub, zi_m1, Nat.add_sub_cancel, Nat.reduceMul, Nat.reduceSub]
        refine sX10_unit_93 _ _ _ _ _ ?_
        simp (disch := omega) only [oRV, List.getElem?_cons_zero, List.getElem?_cons_succ, List.set_cons_zero, List.set_cons_succ, List.drop_succ_cons, List.drop_zero, List.take_succ_cons, List.take_zero, List.length_cons, List.length_nil, List.reverse_cons, List.reverse_nil, List.nil_append, List.cons_append, Option.toList_some, Option.toList_none, va_rf_s, true_and, and_true, true_implies, false_implies, not_true_eq_false, not_false_eq_true, Nat.reduceAdd, Nat.reduceLeDiff, Nat.le_add_left, Nat.zero_le, Nat.le_refl, znew, true_or, or_true, b01_t, b01_f, b01_ok, bool_ft, vp_b01, vp_b0, vp_b1, b01_eq0, b01_eq1, implies_true, nI_add, nI_clamp, zi_in, zi_le_t, zi_le_f, zi_lt_t, zi_lt_f, zi_eq_t, zi_eq_f, nI_leI, nI_ltI, nI_eq, z_in, pk_mul, zu_same, zu_rw, zu_ix, zi_ne0, zi_sub, zi_m1, Nat.add_sub_cancel, Nat.reduceMul, Nat.reduceSub]
        exact fin S2 hf2 hC2
    have bad : ¬ tkK A q.1 = 2 → ¬ (34 ≤ tkK A q.1 ∧ tkK A q.1 ≤ 42) → zC V YX10_fail [.ref b, .int (nI 1)] (z, h, S, L) 0 0 (fun r X' k' n' => zW V YX10_unit 93 [some (.ref b)] (r.toList ++ []) X' k' n') (zOut V [some (.ref b)]) := by
      intro h2 h34
      rw [pB_ok, pUn, if_neg h2, if_neg h34] at hVQ
      refine zC.of0 (zX10_fail hM hC (by omega) (by omega)) (by omega) (Nat.zero_le _) (Nat.zero_le _) ?_
      rintro _ _ ⟨rfl, S1, rfl, hf1, hC1⟩
      refine sX10_unit_93 _ _ _ _ _ ?_
      simp (disch := omega) only [oRV, List.getElem?_cons_zero, List.getElem?_cons_succ, List.set_cons_zero, List.set_cons_succ, List.drop_succ_cons, List.drop_zero, List.take_succ_cons, List.take_zero, List.length_cons, List.length_nil, List.reverse_cons, List.reverse_nil, List.nil_append, List.cons_append, Option.toList_some, Option.toList_none, va_rf_s, true_and, and_true, true_implies, false_implies, not_true_eq_false, not_false_eq_true, Nat.reduceAdd, Nat.reduceLeDiff, Nat.le_add_left, Nat.zero_le, Nat.le_refl, znew, true_or, or_true, b01_t, b01_f, b01_ok, bool_ft, vp_b01, vp_b0, vp_b1, b01_eq0, b01_eq1, implies_true, nI_add, nI_clamp, zi_in, zi_le_t, zi_le_f, zi_lt_t, zi_lt_f, zi_eq_t, zi_eq_f, nI_leI, nI_ltI, nI_eq, z_in, pk_mul, zu_same, zu_rw, zu_ix, zi_ne0, zi_sub, zi_m1, Nat.add_sub_cancel, Nat.reduceMul, Nat.reduceSub]
      exact hVQ _ _ ⟨rfl, S1, c, rfl, go S1 hf1, hC1, fun j _ => ⟨by rw [hf1.at (o := 31) rfl rfl], by rw [hf1.at (o := 32) rfl rfl]⟩, ⟨by rw [hf1.f rfl]; exact h45, Nat.le_refl _, by omega⟩, fun cl q e => by cases e⟩
    by_cases h2 : tkK A q.1 = 2
    · have hb : isB A 2 (.ok q) = true := decide_eq_true h2
      refine sX10_unit_5 _ _ _ _ _ ?_
      simp (disch := omega) only [oAld, oAld1, oBin, oCV, oGI, oGR, oIf, oIfc, oPush, hM.1, hM.r5, hM.t5, hM.n5, hM.r7, hM.t7, hM.n7, hb, h11, e5, List.getElem?_cons_zero, List.getElem?_cons_succ, List.set_cons_zero, List.set_cons_succ, List.drop_succ_cons, List.drop_zero, List.take_succ_cons, List.take_zero, List.length_cons, List.length_nil, List.reverse_cons, List.reverse_nil, List.nil_append, List.cons_append, Option.toList_some, Option.toList_none, va_rf_s, true_and, and_true, true_implies, false_implies, not_true_eq_false, not_false_eq_true, Nat.reduceAdd, Nat.reduceLeDiff, Nat.le_add_left, Nat.zero_le, Nat.le_refl, znew, true_or, or_true, b01_t, b01_f, b01_ok, bool_ft, vp_b01, vp_b0, vp_b1, b01_eq0, b01_eq1, implies_true, nI_add, nI_clamp, zi_in, zi_le_t, zi_le_f, zi_lt_t, zi_lt_f, zi_eq_t, zi_eq_f, nI_leI, nI_ltI, nI_eq, z_in, pk_mul, zu_same, zu_rw, zu_ix, zi_ne0, zi_sub, zi_m1, Nat.add_sub_cancel, Nat.reduceMul, Nat.reduceSub]
      exact emit1 0 _ (by omega) (by rw [pUn, if_pos h2]) 22 (Or.inl rfl)
    · have hb : isB A 2 (.ok q) = false := decide_eq_false h2
      by_cases h34 : tkK A q.1 < 34
      · refine sX10_unit_5 _ _ _ _ _ ?_
        simp (disch := omega) only [oAld, oAld1, oBin, oCV, oGI, oGR, oIf, oIfc, oPush, hM.1, hM.r5, hM.t5, hM.n5, hM.r7, hM.t7, hM.n7, hb, h13, h11, e3, List.getElem?_cons_zero, List.getElem?_cons_succ, List.set_cons_zero, List.set_cons_succ, List.drop_succ_cons, List.drop_zero, List.take_succ_cons, List.take_zero, List.length_cons, List.length_nil, List.reverse_cons, List.reverse_nil, List.nil_append, List.cons_append, Option.toList_some, Option.toList_none, va_rf_s, true_and, and_true, true_implies, false_implies, not_true_eq_false, not_false_eq_true, Nat.reduceAdd, Nat.reduceLeDiff, Nat.le_add_left, Nat.zero_le, Nat.le_refl, znew, true_or, or_true, b01_t, b01_f, b01_ok, bool_ft, vp_b01, vp_b0, vp_b1, b01_eq0, b01_eq1, implies_true, nI_add, nI_clamp, zi_in, zi_le_t, zi_le_f, zi_lt_t, zi_lt_f, zi_eq_t, zi_eq_f, nI_leI, nI_ltI, nI_eq, z_in, pk_mul, zu_same, zu_rw, zu_ix, zi_ne0, zi_sub, zi_m1, Nat.add_sub_cancel, Nat.reduceMul, Nat.reduceSub]
        exact bad h2 (by omega)
      · by_cases h42 : 42 < tkK A q.1
        · refine sX10_unit_5 _ _ _ _ _ ?_
          simp (disch := omega) only [oAld, oAld1, oBin, oCV, oGI, oGR, oIf, oIfc, oPush, hM.1, hM.r5, hM.t5, hM.n5, hM.r7, hM.t7, hM.n7, hb, h13, h11, e3, List.getElem?_cons_zero, List.getElem?_cons_succ, List.set_cons_zero, List.set_cons_succ, List.drop_succ_cons, List.drop_zero, List.take_succ_cons, List.take_zero, List.length_cons, List.length_nil, List.reverse_cons, List.reverse_nil, List.nil_append, List.cons_append, Option.toList_some, Option.toList_none, va_rf_s, true_and, and_true, true_implies, false_implies, not_true_eq_false, not_false_eq_true, Nat.reduceAdd, Nat.reduceLeDiff, Nat.le_add_left, Nat.zero_le, Nat.le_refl, znew, true_or, or_true, b01_t, b01_f, b01_ok, bool_ft, vp_b01, vp_b0, vp_b1, b01_eq0, b01_eq1, implies_true, nI_add, nI_clamp, zi_in, zi_le_t, zi_le_f, zi_lt_t, zi_lt_f, zi_eq_t, zi_eq_f, nI_leI, nI_ltI, nI_eq, z_in, pk_mul, zu_same, zu_rw, zu_ix, zi_ne0, zi_sub, zi_m1, Nat.add_sub_cancel, Nat.reduceMul, Nat.reduceSub]
          exact bad h2 (by omega)
        · refine sX10_unit_5 _ _ _ _ _ ?_
          simp (disch := omega) only [oAld, oAld1, oBin, oCV, oGI, oGR, oIf, oIfc, oPush, hM.1, hM.r5, hM.t5, hM.n5, hM.r7, hM.t7, hM.n7, hb, h13, h11, e3, List.getElem?_cons_zero, List.getElem?_cons_succ, List.set_cons_zero, List.set_cons_succ, List.drop_succ_cons, List.drop_zero, List.take_succ_cons, List.take_zero, List.length_cons, List.length_nil, List.reverse_cons, List.reverse_nil, List.nil_append, List.cons_append, Option.toList_some, Option.toList_none, va_rf_s, true_and, and_true, true_implies, false_implies, not_true_eq_false, not_false_eq_true, Nat.reduceAdd, Nat.reduceLeDiff, Nat.le_add_left, Nat.zero_le, Nat.le_refl, znew, true_or, or_true, b01_t, b01_f, b01_ok, bool_ft, vp_b01, vp_b0, vp_b1, b01_eq0, b01_eq1, implies_true, nI_add, nI_clamp, zi_in, zi_le_t, zi_le_f, zi_lt_t, zi_lt_f, zi_eq_t, zi_eq_f, nI_leI, nI_ltI, nI_eq, z_in, pk_mul, zu_same, zu_rw, zu_ix, zi_ne0, zi_sub, zi_m1, Nat.add_sub_cancel, Nat.reduceMul, Nat.reduceSub]
          exact emit1 1 _ (by omega) (by rw [pUn, if_neg h2, if_pos (by omega)]) 81 (Or.inr rfl)
end MXX
