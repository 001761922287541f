/-! new cells; builders, strings that are made -/
theorem zC.of {V : zV} {Y : zY} {av : List Value} {X : zX} {k n d mc ms : Nat} {K : Option Value → zX → Nat → Nat → Prop} {KX : Nat → zX → Nat → Nat → Prop} {Q : Option Value → zX → Prop} {QX : Nat → zX → Prop} (hM : zM V.1 V.2.1 d Y av X mc ms Q QX) (hd : d + 1 ≤ V.2.2.1) (hk : k + mc ≤ V.2.2.2.1) (hn : n + ms ≤ V.2.2.2.2.1) (h1 : ∀ r X', Q r X' → K r X' (k + mc) (n + ms)) (h2 : ∀ q X', QX q X' → KX q X' (k + mc) (n + ms)) : zC V Y av X k n K KX :=
  ⟨d, mc, ms, Q, QX, hM, hd, hk, hn, h1, h2⟩
theorem zC.ofN {V : zV} {Y : zY} {av : List Value} {X : zX} {k n d mc ms : Nat} {K : Option Value → zX → Nat → Nat → Prop} {KX : Nat → zX → Nat → Nat → Prop} {Q : Option Value → zX → Prop} (hM : zM V.1 V.2.1 d Y av X mc ms Q (fun _ _ => False)) (hd : d + 1 ≤ V.2.2.1) (hk : k + mc ≤ V.2.2.2.1) (hn : n + ms ≤ V.2.2.2.2.1) (h1 : ∀ r X', Q r X' → K r X' (k + mc) (n + ms)) : zC V Y av X k n K KX :=
  ⟨d, mc, ms, Q, _, hM, hd, hk, hn, h1, fun _ _ h => h.elim⟩
def hN (h : Nat → Option zSh) (z : Nat) (q : zSh) : Nat → Option zSh := fun b => if b = z then some q else h b
def SN (S : Nat → Nat → Int32) (z : Nat) : Nat → Nat → Int32 := fun b => if b = z then fun _ => nI 0 else S b
def LN (L : Nat → Nat → Int64) (z : Nat) : Nat → Nat → Int64 := fun b => if b = z then fun _ => 0 else L b
theorem zneq (z : Nat) (h : Nat → Option zSh) (S : Nat → Nat → Int32) (L : Nat → Nat → Int64) (q : zSh) : znew (z, h, S, L) q = (z + 1, hN h z q, SN S z, LN L z) := rfl
section HN
variable {h : Nat → Option zSh} {z a j k : Nat} {q : zSh} {v : Option Nat} {S : Nat → Nat → Int32}
theorem hN_ts : zt (hN h z q) z = q.1 := by unfold zt hN; rw [if_pos rfl]
theorem hN_to (ha : a ≠ z) : zt (hN h z q) a = zt h a := by unfold zt hN; rw [if_neg ha]
theorem hN_ns : zn (hN h z q) z = q.2.1 := by unfold zn hN; rw [if_pos rfl]
theorem hN_no (ha : a ≠ z) : zn (hN h z q) a = zn h a := by unfold zn hN; rw [if_neg ha]
theorem hN_rs : zr (hN h z q) z = q.2.2 := by unfold zr hN; rw [if_pos rfl]
theorem hN_ro (ha : a ≠ z) : zr (hN h z q) a = zr h a := by unfold zr hN; rw [if_neg ha]
theorem hN_o (ha : a ≠ z) : hN h z q a = h a := if_neg ha
theorem SN_s : SN S z z = fun _ => nI 0 := if_pos rfl
theorem SN_o (ha : a ≠ z) : SN S z a = S a := if_neg ha
theorem LN_o {L : Nat → Nat → Int64} (ha : a ≠ z) : LN L z a = L a := if_neg ha
theorem zur_rs : zr (zur h a k v) a k = v := by rw [zur_r, if_pos ⟨rfl, rfl⟩]
theorem zur_rk {b : Nat} (hj : j ≠ k) : zr (zur h a k v) b j = zr h b j := by rw [zur_r, if_neg (fun q => hj q.2)]
theorem zur_ro {b : Nat} (hb : b ≠ a) : zr (zur h a k v) b j = zr h b j := by rw [zur_r, if_neg (fun q => hb q.1)]
end HN
/-- the heap grows; of what stood only the cells W change -/
def gw (W : Nat → Prop) (X X' : zX) : Prop := X.1 ≤ X'.1 ∧ ∀ a, a < X.1 → (¬ W a → X'.2.1 a = X.2.1 a ∧ X'.2.2.1 a = X.2.2.1 a) ∧ X'.2.2.2 a = X.2.2.2 a
theorem gw.rf {W : Nat → Prop} {X : zX} : gw W X X := ⟨Nat.le_refl _, fun _ _ => ⟨fun _ => ⟨rfl, rfl⟩, rfl⟩⟩
theorem gw.tr {W : Nat → Prop} {X X' X'' : zX} (h : gw W X X') (h' : gw W X' X'') : gw W X X'' := ⟨Nat.le_trans h.1 h'.1, fun a ha => ⟨fun hw => ⟨(((h'.2 a (Nat.lt_of_lt_of_le ha h.1)).1 hw).1).trans ((h.2 a ha).1 hw).1, (((h'.2 a (Nat.lt_of_lt_of_le ha h.1)).1 hw).2).trans ((h.2 a ha).1 hw).2⟩, ((h'.2 a (Nat.lt_of_lt_of_le ha h.1)).2).trans (h.2 a ha).2⟩⟩
theorem gw.wk {W W' : Nat → Prop} {X X' : zX} (h : gw W X X') (hw : ∀ a, a < X.1 → W a → W' a) : gw W' X X' := ⟨h.1, fun a ha => ⟨fun hn => (h.2 a ha).1 (fun q => hn (hw a ha q)), (h.2 a ha).2⟩⟩
/-- a builder: object sb, its bytes at va, its letters -/
def isSb (h : Nat → Option zSh) (S : Nat → Nat → Int32) (sb va : Nat) (w : List Nat) : Prop := zt h sb = 36 ∧ zr h sb 0 = some va ∧ S sb 1 = nI 0 ∧ S sb 3 = nI w.length ∧ (zt h va = 1 ∧ zn h va = 16 ∧ sb ≠ va) ∧ w.length ≤ 8 ∧ ∀ i, i < w.length → S va i = nI (w.getD i 0 + 96) ∧ w.getD i 0 ≤ 26
section EB
variable {l : Launch} {E : zE} {z : Nat} {h : Nat → Option zSh} {S : Nat → Nat → Int32} {L : Nat → Nat → Int64}
theorem zJ11_init {sb : Nat} (hc : csZ E) (ht : zt h sb = 36) (hz : sb < z) (h3 : S sb 3 = nI 0) : zM l E 1 YJ11_init [.ref sb, .int (nI 16)] (z, h, S, L) 1 16 (fun r X => r = none ∧ ∃ h' S' L', X = (z + 1, h', S', L') ∧ gw (fun a => a = sb) (z, h, S, L) (z + 1, h', S', L') ∧ isSb h' S' sb z []) (fun _ _ => False) := by
  refine zM.go rfl rfl (Nat.le_of_ble_eq_true rfl) (ls := [some (.ref sb), some (.int (nI 16))]) rfl ?_
  intro V hVl hVE hVd hVc hVs hVQ hVX
  rw [← hVE] at hc
  have hp : (nI 16 < (0 : Int32)) = False := eq_false (by decide)
  refine sJ11_init_0 (by omega) (v4 := .int (nI 1)) _ _ _ _ _ ?_
  simp (disch := omega) only [oAld, oBot, oGetS, oIf, oIld, oNewa, oNop, oObj, oPI, oPR, oPush, oRV, hc, ht, hp, hVc, hVs, List.getElem?_cons_zero, List.getElem?_cons_succ, List.set_cons_zero, List.set_cons_succ, List.drop_succ_cons, List.drop_zero, List.take_succ_cons, List.take_zero, List.length_cons, List.length_nil, List.reverse_cons, List.reverse_nil, List.nil_append, List.cons_append, Option.toList_some, Option.toList_none, va_rf_s, true_and, and_true, true_implies, false_implies, not_true_eq_false, not_false_eq_true, Nat.reduceAdd, Nat.reduceLeDiff, Nat.le_add_left, Nat.zero_le, Nat.le_refl, true_or, or_true, b01_t, b01_f, b01_ok, bool_ft, vp_b01, vp_b0, vp_b1, b01_eq0, b01_eq1, implies_true, zneq, hN_ts, hN_to, hN_ns, hN_no, hN_rs, hN_ro, SN_s, SN_o, zur_t, zur_n, zur_rs, zur_rk, zur_ro, nI_add, nI_clamp, zi_in, zi_le_t, zi_le_f, zi_lt_t, zi_lt_f, zi_eq_t, zi_eq_f, nI_leI, nI_ltI, nI_eq, z_in, pk_mul, zu_same, zu_rw, zu_ix, zi_ne0, zi_sub, zi_m1, Nat.add_sub_cancel, Nat.reduceMul, Nat.reduceSub]
  refine hVQ _ _ ⟨rfl, _, _, _, rfl, ⟨Nat.le_succ _, fun a ha => ⟨fun hw => ⟨?_, ?_⟩, ?_⟩⟩, ?_⟩
  · show zur (hN h z _) sb 0 _ a = h a
    rw [zur_ne hw, hN_o (by omega)]
  · show zu (SN S z) sb 1 _ a = S a
    rw [zu_rw _ _ hw, SN_o (by omega)]
  · show LN L z a = L a
    exact LN_o (by omega)
  · refine ⟨?_, ?_, ?_, ?_, ⟨?_, ?_, by omega⟩, by simp, fun i hi => absurd hi (by simp)⟩
    · rw [zur_t, hN_to (by omega)]; exact ht
    · exact zur_rs
    · exact zu_same _ _ _ _
    · rw [zu_ix _ _ (by omega), SN_o (by omega)]; exact h3
    · rw [zur_t]; exact hN_ts
    · rw [zur_n]; exact hN_ns
theorem zJ12_init {sb : Nat} (hc : csZ E) (ht : zt h sb = 36) (hz : sb < z) (h3 : S sb 3 = nI 0) : zM l E 2 YJ12_init [.ref sb] (z, h, S, L) 1 16 (fun r X => r = none ∧ ∃ h' S' L', X = (z + 1, h', S', L') ∧ gw (fun a => a = sb) (z, h, S, L) (z + 1, h', S', L') ∧ isSb h' S' sb z []) (fun _ _ => False) := by
  refine zM.go rfl rfl (Nat.le_of_ble_eq_true rfl) (ls := [some (.ref sb)]) rfl ?_
  intro V hVl hVE hVd hVc hVs hVQ hVX
  refine sJ12_init_0 _ _ _ _ _ ?_
  simp (disch := omega) only [oAld, oCI, oPush, List.getElem?_cons_zero, List.getElem?_cons_succ, List.set_cons_zero, List.set_cons_succ, List.drop_succ_cons, List.drop_zero, List.take_succ_cons, List.take_zero, List.length_cons, List.length_nil, List.reverse_cons, List.reverse_nil, List.nil_append, List.cons_append, Option.toList_some, Option.toList_none, va_rf_s, true_and, and_true, true_implies, false_implies, not_true_eq_false, not_false_eq_true, Nat.reduceAdd, Nat.reduceLeDiff, Nat.le_add_left, Nat.zero_le, Nat.le_refl, znew, true_or, or_true, b01_t, b01_f, b01_ok, bool_ft, vp_b01, vp_b0, vp_b1, b01_eq0, b01_eq1, implies_true, nI_add, nI_clamp, zi_in, zi_le_t, zi_le_f, zi_lt_t, zi_lt_f, zi_eq_t, zi_eq_f, nI_leI, nI_ltI, nI_eq, z_in, pk_mul, zu_same, zu_rw, zu_ix, zi_ne0, zi_sub, zi_m1, Nat.add_sub_cancel, Nat.reduceMul, Nat.reduceSub]
  refine zC.ofN (zJ11_init (by rw [hVE]; exact hc) ht hz h3) (by omega) (by omega) (by omega) ?_
  rintro _ _ ⟨rfl, h', S', L', rfl, g1, g2⟩
  refine sJ12_init_6 _ _ _ _ _ ?_
  simp (disch := omega) only [oRV, hVc, hVs, List.getElem?_cons_zero, List.getElem?_cons_succ, List.set_cons_zero, List.set_cons_succ, List.drop_succ_cons, List.drop_zero, List.take_succ_cons, List.take_zero, List.length_cons, List.length_nil, List.reverse_cons, List.reverse_nil, List.nil_append, List.cons_append, Option.toList_some, Option.toList_none, va_rf_s, true_and, and_true, true_implies, false_implies, not_true_eq_false, not_false_eq_true, Nat.reduceAdd, Nat.reduceLeDiff, Nat.le_add_left, Nat.zero_le, Nat.le_refl, znew, true_or, or_true, b01_t, b01_f, b01_ok, bool_ft, vp_b01, vp_b0, vp_b1, b01_eq0, b01_eq1, implies_true, nI_add, nI_clamp, zi_in, zi_le_t, zi_le_f, zi_lt_t, zi_lt_f, zi_eq_t, zi_eq_f, nI_leI, nI_ltI, nI_eq, z_in, pk_mul, zu_same, zu_rw, zu_ix, zi_ne0, zi_sub, zi_m1, Nat.add_sub_cancel, Nat.reduceMul, Nat.reduceSub]
  exact hVQ _ _ ⟨rfl, h', S', L', rfl, g1, g2⟩
theorem zJ11_isLatin1 {sb va : Nat} {w : List Nat} (hc : csZ E) (hs : isSb h S sb va w) : zM l E 0 YJ11_isLatin1 [.ref sb] (z, h, S, L) 0 0 (fun r X => r = some (.int (nI 1)) ∧ X = (z, h, S, L)) (fun _ _ => False) := by
  obtain ⟨s1, s2, s3, s4, ⟨s5, s6, s7⟩, s8, s9⟩ := hs
  refine zM.go rfl rfl (Nat.le_of_ble_eq_true rfl) (ls := [some (.ref sb)]) rfl ?_
  intro V hVl hVE hVd hVc hVs hVQ hVX
  rw [← hVE] at hc
  refine sJ11_isLatin1_0 (v0 := .int (nI 1)) _ _ _ _ _ ?_
  simp (disch := omega) only [oAld, oGI, oGetS, oIf, oNop, oPush, oRZ, hc, s1, s3, List.getElem?_cons_zero, List.getElem?_cons_succ, List.set_cons_zero, List.set_cons_succ, List.drop_succ_cons, List.drop_zero, List.take_succ_cons, List.take_zero, List.length_cons, List.length_nil, List.reverse_cons, List.reverse_nil, List.nil_append, List.cons_append, Option.toList_some, Option.toList_none, va_rf_s, true_and, and_true, true_implies, false_implies, not_true_eq_false, not_false_eq_true, Nat.reduceAdd, Nat.reduceLeDiff, Nat.le_add_left, Nat.zero_le, Nat.le_refl, znew, true_or, or_true, b01_t, b01_f, b01_ok, bool_ft, vp_b01, vp_b0, vp_b1, b01_eq0, b01_eq1, implies_true, nI_add, nI_clamp, zi_in, zi_le_t, zi_le_f, zi_lt_t, zi_lt_f, zi_eq_t, zi_eq_f, nI_leI, nI_ltI, nI_eq, z_in, pk_mul, zu_same, zu_rw, zu_ix, zi_ne0, zi_sub, zi_m1, Nat.add_sub_cancel, Nat.reduceMul, Nat.reduceSub]
  exact hVQ _ _ ⟨rfl, rfl⟩
theorem zJ11_ensure {sb va n : Nat} {w : List Nat} (hs : isSb h S sb va w) (hn : n ≤ 16) : zM l E 0 YJ11_ensureCapacityInternal [.ref sb, .int (nI n)] (z, h, S, L) 0 0 (fun r X => r = none ∧ X = (z, h, S, L)) (fun _ _ => False) := by
  obtain ⟨s1, s2, s3, s4, ⟨s5, s6, s7⟩, s8, s9⟩ := hs
  refine zM.go rfl rfl (Nat.le_of_ble_eq_true rfl) (ls := [some (.ref sb), some (.int (nI n)), none]) rfl ?_
  intro V hVl hVE hVd hVc hVs hVQ hVX
  have hle : (nI n - nI 16 ≤ nI 0) = True := eq_true (by
    rw [Int32.le_iff_toInt_le, pk_sub_toInt (by omega) (by omega), nI_toInt (by omega)]; omega)
  refine sJ11_ensureCapacityInternal_0 _ _ _ _ _ ?_
  simp (disch := omega) only [oAld, oBin, oBot, oGI, oGR, oIf, oIld, oIst, oLen, oRV, s1, s2, s3, s5, s6, shr0, hle, List.getElem?_cons_zero, List.getElem?_cons_succ, List.set_cons_zero, List.set_cons_succ, List.drop_succ_cons, List.drop_zero, List.take_succ_cons, List.take_zero, List.length_cons, List.length_nil, List.reverse_cons, List.reverse_nil, List.nil_append, List.cons_append, Option.toList_some, Option.toList_none, va_rf_s, true_and, and_true, true_implies, false_implies, not_true_eq_false, not_false_eq_true, Nat.reduceAdd, Nat.reduceLeDiff, Nat.le_add_left, Nat.zero_le, Nat.le_refl, znew, true_or, or_true, b01_t, b01_f, b01_ok, bool_ft, vp_b01, vp_b0, vp_b1, b01_eq0, b01_eq1, implies_true, nI_add, nI_clamp, zi_in, zi_le_t, zi_le_f, zi_lt_t, zi_lt_f, zi_eq_t, zi_eq_f, nI_leI, nI_ltI, nI_eq, z_in, pk_mul, zu_same, zu_rw, zu_ix, zi_ne0, zi_sub, zi_m1, Nat.add_sub_cancel, Nat.reduceMul, Nat.reduceSub]
  exact hVQ _ _ ⟨rfl, rfl⟩
abbrev seN (E : zE) : Prop := zsN E (Cond.selects "java/lang/StringBuilder" YJ11_ensureCapacityInternal.1 YJ11_ensureCapacityInternal.1)
theorem zJ9_canEncode {q : Nat} (hq : q < 128) (X : zX) : zM l E 0 YJ9_canEncode [.int (nI q)] X 0 0 (fun r X' => r = some (.int (nI 1)) ∧ X' = X) (fun _ _ => False) := by
  refine zM.go rfl rfl (Nat.le_of_ble_eq_true rfl) (ls := [some (.int (nI q))]) rfl ?_
  intro V hVl hVE hVd hVc hVs hVQ hVX
  refine sJ9_canEncode_0 _ _ _ _ _ ?_
  simp (disch := omega) only [oIfc, oIld, oNop, oPush, oRZ, List.getElem?_cons_zero, List.getElem?_cons_succ, List.set_cons_zero, List.set_cons_succ, List.drop_succ_cons, List.drop_zero, List.take_succ_cons, List.take_zero, List.length_cons, List.length_nil, List.reverse_cons, List.reverse_nil, List.nil_append, List.cons_append, Option.toList_some, Option.toList_none, va_rf_s, true_and, and_true, true_implies, false_implies, not_true_eq_false, not_false_eq_true, Nat.reduceAdd, Nat.reduceLeDiff, Nat.le_add_left, Nat.zero_le, Nat.le_refl, znew, true_or, or_true, b01_t, b01_f, b01_ok, bool_ft, vp_b01, vp_b0, vp_b1, b01_eq0, b01_eq1, implies_true, nI_add, nI_clamp, zi_in, zi_le_t, zi_le_f, zi_lt_t, zi_lt_f, zi_eq_t, zi_eq_f, nI_leI, nI_ltI, nI_eq, z_in, pk_mul, zu_same, zu_rw, zu_ix, zi_ne0, zi_sub, zi_m1, Nat.add_sub_cancel, Nat.reduceMul, Nat.reduceSub]
  exact hVQ _ _ ⟨rfl, rfl⟩
theorem zJ11_append {sb va c : Nat} {w : List Nat} (hc : csZ E) (he : seN E) (hs : isSb h S sb va w) (hw : w.length < 8) (h26 : c ≤ 26) : zM l E 1 YJ11_append [.ref sb, .int (nI (c + 96))] (z, h, S, L) 0 0 (fun r X => r = some (.ref sb) ∧ ∃ S', X = (z, h, S', L) ∧ (∀ a, a ≠ sb → a ≠ va → S' a = S a) ∧ isSb h S' sb va (w ++ [c])) (fun _ _ => False) := by
  obtain ⟨s1, s2, s3, s4, ⟨s5, s6, s7⟩, s8, s9⟩ := id hs
  refine zM.go rfl rfl (Nat.le_of_ble_eq_true rfl) (ls := [some (.ref sb), some (.int (nI (c + 96)))]) rfl ?_
  intro V hVl hVE hVd hVc hVs hVQ hVX
  rw [← hVE] at he
  refine sJ11_append_0 _ _ _ _ _ ?_
  simp (disch := omega) only [oAld, oBin, oCVp, oGI, oPush, oCV, he, s1, s4, List.getElem?_cons_zero, List.getElem?_cons_succ, List.set_cons_zero, List.set_cons_succ, List.drop_succ_cons, List.drop_zero, List.take_succ_cons, List.take_zero, List.length_cons, List.length_nil, List.reverse_cons, List.reverse_nil, List.nil_append, List.cons_append, Option.toList_some, Option.toList_none, va_rf_s, true_and, and_true, true_implies, false_implies, not_true_eq_false, not_false_eq_true, Nat.reduceAdd, Nat.reduceLeDiff, Nat.le_add_left, Nat.zero_le, Nat.le_refl, znew, true_or, or_true, b01_t, b01_f, b01_ok, bool_ft, vp_b01, vp_b0, vp_b1, b01_eq0, b01_eq1, implies_true, nI_add, nI_clamp, zi_in, zi_le_t, zi_le_f, zi_lt_t, zi_lt_f, zi_eq_t, zi_eq_f, nI_leI, nI_ltI, nI_eq, z_in, pk_mul, zu_same, zu_rw, zu_ix, zi_ne0, zi_sub, zi_m1, Nat.add_sub_cancel, Nat.reduceMul, Nat.reduceSub]
  refine zC.of0 (zJ11_ensure hs (n := w.length + 1) (by omega)) (by omega) (Nat.zero_le _) (Nat.zero_le _) ?_
  rintro _ _ ⟨rfl, rfl⟩
  refine sJ11_append_10 _ _ _ _ _ ?_
  simp (disch := omega) only [oAld, oCV, s1, List.getElem?_cons_zero, List.getElem?_cons_succ, List.set_cons_zero, List.set_cons_succ, List.drop_succ_cons, List.drop_zero, List.take_succ_cons, List.take_zero, List.length_cons, List.length_nil, List.reverse_cons, List.reverse_nil, List.nil_append, List.cons_append, Option.toList_some, Option.toList_none, va_rf_s, true_and, and_true, true_implies, false_implies, not_true_eq_false, not_false_eq_true, Nat.reduceAdd, Nat.reduceLeDiff, Nat.le_add_left, Nat.zero_le, Nat.le_refl, znew, true_or, or_true, b01_t, b01_f, b01_ok, bool_ft, vp_b01, vp_b0, vp_b1, b01_eq0, b01_eq1, implies_true, nI_add, nI_clamp, zi_in, zi_le_t, zi_le_f, zi_lt_t, zi_lt_f, zi_eq_t, zi_eq_f, nI_leI, nI_ltI, nI_eq, z_in, pk_mul, zu_same, zu_rw, zu_ix, zi_ne0, zi_sub, zi_m1, Nat.add_sub_cancel, Nat.reduceMul, Nat.reduceSub]
  refine zC.of0 (zJ11_isLatin1 (by rw [hVE]; exact hc) hs) (by omega) (Nat.zero_le _) (Nat.zero_le _) ?_
  rintro _ _ ⟨rfl, rfl⟩
  refine sJ11_append_14 _ _ _ _ _ ?_
  simp (disch := omega) only [oBot, oCS, oIf, oIld, List.getElem?_cons_zero, List.getElem?_cons_succ, List.set_cons_zero, List.set_cons_succ, List.drop_succ_cons, List.drop_zero, List.take_succ_cons, List.take_zero, List.length_cons, List.length_nil, List.reverse_cons, List.reverse_nil, List.nil_append, List.cons_append, Option.toList_some, Option.toList_none, va_rf_s, true_and, and_true, true_implies, false_implies, not_true_eq_false, not_false_eq_true, Nat.reduceAdd, Nat.reduceLeDiff, Nat.le_add_left, Nat.zero_le, Nat.le_refl, znew, true_or, or_true, b01_t, b01_f, b01_ok, bool_ft, vp_b01, vp_b0, vp_b1, b01_eq0, b01_eq1, implies_true, nI_add, nI_clamp, zi_in, zi_le_t, zi_le_f, zi_lt_t, zi_lt_f, zi_eq_t, zi_eq_f, nI_leI, nI_ltI, nI_eq, z_in, pk_mul, zu_same, zu_rw, zu_ix, zi_ne0, zi_sub, zi_m1, Nat.add_sub_cancel, Nat.reduceMul, Nat.reduceSub]
  refine zC.of0 (zJ9_canEncode (by omega) _) (by omega) (Nat.zero_le _) (Nat.zero_le _) ?_
  rintro _ _ ⟨rfl, rfl⟩
  refine sJ11_append_21 _ _ _ _ _ ?_
  simp (disch := omega) only [oAld, oAst1, oBin, oBot, oDup, oDupX1, oGI, oGR, oIf, oIld, oNop, oPI, oPush, oRA, oUn, s1, s2, s4, s5, s6, i_b2, nar_b, List.getElem?_cons_zero, List.getElem?_cons_succ, List.set_cons_zero, List.set_cons_succ, List.drop_succ_cons, List.drop_zero, List.take_succ_cons, List.take_zero, List.length_cons, List.length_nil, List.reverse_cons, List.reverse_nil, List.nil_append, List.cons_append, Option.toList_some, Option.toList_none, va_rf_s, true_and, and_true, true_implies, false_implies, not_true_eq_false, not_false_eq_true, Nat.reduceAdd, Nat.reduceLeDiff, Nat.le_add_left, Nat.zero_le, Nat.le_refl, znew, true_or, or_true, b01_t, b01_f, b01_ok, bool_ft, vp_b01, vp_b0, vp_b1, b01_eq0, b01_eq1, implies_true, nI_add, nI_clamp, zi_in, zi_le_t, zi_le_f, zi_lt_t, zi_lt_f, zi_eq_t, zi_eq_f, nI_leI, nI_ltI, nI_eq, z_in, pk_mul, zu_same, zu_rw, zu_ix, zi_ne0, zi_sub, zi_m1, Nat.add_sub_cancel, Nat.reduceMul, Nat.reduceSub]
  refine hVQ _ _ ⟨rfl, _, rfl, fun a h1 h2 => by rw [zu_rw _ _ h2, zu_rw _ _ h1], ?_⟩
  refine ⟨s1, s2, ?_, ?_, ⟨s5, s6, s7⟩, by simp; omega, fun i hi => ?_⟩
  · rw [zu_rw _ _ s7, zu_ix _ _ (by omega)]; exact s3
  · rw [zu_rw _ _ s7, zu_same]; simp
  · rw [getD_snoc]
    simp only [List.length_append, List.length_cons, List.length_nil] at hi
    by_cases e : i = w.length
    · rw [if_pos e, e, zu_same]; exact ⟨rfl, h26⟩
    · rw [if_neg e, if_pos (by omega), zu_ix _ _ e, zu_rw _ _ (Ne.symm s7)]; exact s9 i (by omega)
theorem zJ12_append {sb va c : Nat} {w : List Nat} (hc : csZ E) (he : seN E) (hs : isSb h S sb va w) (hw : w.length < 8) (h26 : c ≤ 26) : zM l E 2 YJ12_append [.ref sb, .int (nI (c + 96))] (z, h, S, L) 0 0 (fun r X => r = some (.ref sb) ∧ ∃ S', X = (z, h, S', L) ∧ (∀ a, a ≠ sb → a ≠ va → S' a = S a) ∧ isSb h S' sb va (w ++ [c])) (fun _ _ => False) := by
  refine zM.go rfl rfl (Nat.le_of_ble_eq_true rfl) (ls := [some (.ref sb), some (.int (nI (c + 96)))]) rfl ?_
  intro V hVl hVE hVd hVc hVs hVQ hVX
  refine sJ12_append_0 _ _ _ _ _ ?_
  simp (disch := omega) only [oAld, oCV, oIld, hs.1, List.getElem?_cons_zero, List.getElem?_cons_succ, List.set_cons_zero, List.set_cons_succ, List.drop_succ_cons, List.drop_zero, List.take_succ_cons, List.take_zero, List.length_cons, List.length_nil, List.reverse_cons, List.reverse_nil, List.nil_append, List.cons_append, Option.toList_some, Option.toList_none, va_rf_s, true_and, and_true, true_implies, false_implies, not_true_eq_false, not_false_eq_true, Nat.reduceAdd, Nat.reduceLeDiff, Nat.le_add_left, Nat.zero_le, Nat.le_refl, znew, true_or, or_true, b01_t, b01_f, b01_ok, bool_ft, vp_b01, vp_b0, vp_b1, b01_eq0, b01_eq1, implies_true, nI_add, nI_clamp, zi_in, zi_le_t, zi_le_f, zi_lt_t, zi_lt_f, zi_eq_t, zi_eq_f, nI_leI, nI_ltI, nI_eq, z_in, pk_mul, zu_same, zu_rw, zu_ix, zi_ne0, zi_sub, zi_m1, Nat.add_sub_cancel, Nat.reduceMul, Nat.reduceSub]
  refine zC.of0 (zJ11_append (by rw [hVE]; exact hc) (by rw [hVE]; exact he) hs hw h26) (by omega) (Nat.zero_le _) (Nat.zero_le _) ?_
  rintro _ _ ⟨rfl, S', rfl, g1, g2⟩
  refine sJ12_append_5 _ _ _ _ _ ?_
  simp (disch := omega) only [oAld, oPop, oRA, List.getElem?_cons_zero, List.getElem?_cons_succ, List.set_cons_zero, List.set_cons_succ, List.drop_succ_cons, List.drop_zero, List.take_succ_cons, List.take_zero, List.length_cons, List.length_nil, List.reverse_cons, List.reverse_nil, List.nil_append, List.cons_append, Option.toList_some, Option.toList_none, va_rf_s, true_and, and_true, true_implies, false_implies, not_true_eq_false, not_false_eq_true, Nat.reduceAdd, Nat.reduceLeDiff, Nat.le_add_left, Nat.zero_le, Nat.le_refl, znew, true_or, or_true, b01_t, b01_f, b01_ok, bool_ft, vp_b01, vp_b0, vp_b1, b01_eq0, b01_eq1, implies_true, nI_add, nI_clamp, zi_in, zi_le_t, zi_le_f, zi_lt_t, zi_lt_f, zi_eq_t, zi_eq_f, nI_leI, nI_ltI, nI_eq, z_in, pk_mul, zu_same, zu_rw, zu_ix, zi_ne0, zi_sub, zi_m1, Nat.add_sub_cancel, Nat.reduceMul, Nat.reduceSub]
  exact hVQ _ _ ⟨rfl, S', rfl, g1, g2⟩
theorem zJ12_length {sb va : Nat} {w : List Nat} (hs : isSb h S sb va w) : zM l E 1 YJ12_length [.ref sb] (z, h, S, L) 0 0 (fun r X => r = some (.int (nI w.length)) ∧ X = (z, h, S, L)) (fun _ _ => False) := by
  obtain ⟨s1, s2, s3, s4, ⟨s5, s6, s7⟩, s8, s9⟩ := id hs
  have base : ∀ l' E', zM l' E' 0 YJ11_length [.ref sb] (z, h, S, L) 0 0 (fun r X => r = some (.int (nI w.length)) ∧ X = (z, h, S, L)) (fun _ _ => False) := by
    intro l' E'
    refine zM.go rfl rfl (Nat.le_of_ble_eq_true rfl) (ls := [some (.ref sb)]) rfl ?_
    intro V hVl hVE hVd hVc hVs hVQ hVX
    refine sJ11_length_0 _ _ _ _ _ ?_
    simp (disch := omega) only [oAld, oGI, oRI, s1, s4, List.getElem?_cons_zero, List.getElem?_cons_succ, List.set_cons_zero, List.set_cons_succ, List.drop_succ_cons, List.drop_zero, List.take_succ_cons, List.take_zero, List.length_cons, List.length_nil, List.reverse_cons, List.reverse_nil, List.nil_append, List.cons_append, Option.toList_some, Option.toList_none, va_rf_s, true_and, and_true, true_implies, false_implies, not_true_eq_false, not_false_eq_true, Nat.reduceAdd, Nat.reduceLeDiff, Nat.le_add_left, Nat.zero_le, Nat.le_refl, znew, true_or, or_true, b01_t, b01_f, b01_ok, bool_ft, vp_b01, vp_b0, vp_b1, b01_eq0, b01_eq1, implies_true, nI_add, nI_clamp, zi_in, zi_le_t, zi_le_f, zi_lt_t, zi_lt_f, zi_eq_t, zi_eq_f, nI_leI, nI_ltI, nI_eq, z_in, pk_mul, zu_same, zu_rw, zu_ix, zi_ne0, zi_sub, zi_m1, Nat.add_sub_cancel, Nat.reduceMul, Nat.reduceSub]
    exact hVQ _ _ ⟨rfl, rfl⟩
  refine zM.go rfl rfl (Nat.le_of_ble_eq_true rfl) (ls := [some (.ref sb)]) rfl ?_
  intro V hVl hVE hVd hVc hVs hVQ hVX
  refine sJ12_length_0 _ _ _ _ _ ?_
  simp (disch := omega) only [oAld, oCV, s1, List.getElem?_cons_zero, List.getElem?_cons_succ, List.set_cons_zero, List.set_cons_succ, List.drop_succ_cons, List.drop_zero, List.take_succ_cons, List.take_zero, List.length_cons, List.length_nil, List.reverse_cons, List.reverse_nil, List.nil_append, List.cons_append, Option.toList_some, Option.toList_none, va_rf_s, true_and, and_true, true_implies, false_implies, not_true_eq_false, not_false_eq_true, Nat.reduceAdd, Nat.reduceLeDiff, Nat.le_add_left, Nat.zero_le, Nat.le_refl, znew, true_or, or_true, b01_t, b01_f, b01_ok, bool_ft, vp_b01, vp_b0, vp_b1, b01_eq0, b01_eq1, implies_true, nI_add, nI_clamp, zi_in, zi_le_t, zi_le_f, zi_lt_t, zi_lt_f, zi_eq_t, zi_eq_f, nI_leI, nI_ltI, nI_eq, z_in, pk_mul, zu_same, zu_rw, zu_ix, zi_ne0, zi_sub, zi_m1, Nat.add_sub_cancel, Nat.reduceMul, Nat.reduceSub]
  refine zC.of0 (base _ _) (by omega) (Nat.zero_le _) (Nat.zero_le _) ?_
  rintro _ _ ⟨rfl, rfl⟩
  refine sJ12_length_4 _ _ _ _ _ ?_
  simp (disch := omega) only [oRI, List.getElem?_cons_zero, List.getElem?_cons_succ, List.set_cons_zero, List.set_cons_succ, List.drop_succ_cons, List.drop_zero, List.take_succ_cons, List.take_zero, List.length_cons, List.length_nil, List.reverse_cons, List.reverse_nil, List.nil_append, List.cons_append, Option.toList_some, Option.toList_none, va_rf_s, true_and, and_true, true_implies, false_implies, not_true_eq_false, not_false_eq_true, Nat.reduceAdd, Nat.reduceLeDiff, Nat.le_add_left, Nat.zero_le, Nat.le_refl, znew, true_or, or_true, b01_t, b01_f, b01_ok, bool_ft, vp_b01, vp_b0, vp_b1, b01_eq0, b01_eq1, implies_true, nI_add, nI_clamp, zi_in, zi_le_t, zi_le_f, zi_lt_t, zi_lt_f, zi_eq_t, zi_eq_f, nI_leI, nI_ltI, nI_eq, z_in, pk_mul, zu_same, zu_rw, zu_ix, zi_ne0, zi_sub, zi_m1, Nat.add_sub_cancel, Nat.reduceMul, Nat.reduceSub]
  exact hVQ _ _ ⟨rfl, rfl⟩
theorem zJ11_getValue {sb va : Nat} {w : List Nat} (hs : isSb h S sb va w) : zM l E 0 YJ11_getValue [.ref sb] (z, h, S, L) 0 0 (fun r X => r = some (.ref va) ∧ X = (z, h, S, L)) (fun _ _ => False) := by
  obtain ⟨s1, s2, s3, s4, ⟨s5, s6, s7⟩, s8, s9⟩ := id hs
  refine zM.go rfl rfl (Nat.le_of_ble_eq_true rfl) (ls := [some (.ref sb)]) rfl ?_
  intro V hVl hVE hVd hVc hVs hVQ hVX
  refine sJ11_getValue_0 _ _ _ _ _ ?_
  simp (disch := omega) only [oAld, oGR, oRA, s1, s2, List.getElem?_cons_zero, List.getElem?_cons_succ, List.set_cons_zero, List.set_cons_succ, List.drop_succ_cons, List.drop_zero, List.take_succ_cons, List.take_zero, List.length_cons, List.length_nil, List.reverse_cons, List.reverse_nil, List.nil_append, List.cons_append, Option.toList_some, Option.toList_none, va_rf_s, true_and, and_true, true_implies, false_implies, not_true_eq_false, not_false_eq_true, Nat.reduceAdd, Nat.reduceLeDiff, Nat.le_add_left, Nat.zero_le, Nat.le_refl, znew, true_or, or_true, b01_t, b01_f, b01_ok, bool_ft, vp_b01, vp_b0, vp_b1, b01_eq0, b01_eq1, implies_true, nI_add, nI_clamp, zi_in, zi_le_t, zi_le_f, zi_lt_t, zi_lt_f, zi_eq_t, zi_eq_f, nI_leI, nI_ltI, nI_eq, z_in, pk_mul, zu_same, zu_rw, zu_ix, zi_ne0, zi_sub, zi_m1, Nat.add_sub_cancel, Nat.reduceMul, Nat.reduceSub]
  exact hVQ _ _ ⟨rfl, rfl⟩
theorem zJ15_checkLength {n : Nat} (hn : n ≤ 16) (X : zX) : zM l E 0 YJ15_checkLength [.int (nI 0), .int (nI n)] X 0 0 (fun r X' => r = none ∧ X' = X) (fun _ _ => False) := by
  refine zM.go rfl rfl (Nat.le_of_ble_eq_true rfl) (ls := [some (.int (nI 0)), some (.int (nI n))]) rfl ?_
  intro V hVl hVE hVd hVc hVs hVQ hVX
  refine sJ15_checkLength_0 _ _ _ _ _ ?_
  simp (disch := omega) only [oBot, oIfc, oIld, oRV, List.getElem?_cons_zero, List.getElem?_cons_succ, List.set_cons_zero, List.set_cons_succ, List.drop_succ_cons, List.drop_zero, List.take_succ_cons, List.take_zero, List.length_cons, List.length_nil, List.reverse_cons, List.reverse_nil, List.nil_append, List.cons_append, Option.toList_some, Option.toList_none, va_rf_s, true_and, and_true, true_implies, false_implies, not_true_eq_false, not_false_eq_true, Nat.reduceAdd, Nat.reduceLeDiff, Nat.le_add_left, Nat.zero_le, Nat.le_refl, znew, true_or, or_true, b01_t, b01_f, b01_ok, bool_ft, vp_b01, vp_b0, vp_b1, b01_eq0, b01_eq1, implies_true, nI_add, nI_clamp, zi_in, zi_le_t, zi_le_f, zi_lt_t, zi_lt_f, zi_eq_t, zi_eq_f, nI_leI, nI_ltI, nI_eq, z_in, pk_mul, zu_same, zu_rw, zu_ix, zi_ne0, zi_sub, zi_m1, Nat.add_sub_cancel, Nat.reduceMul, Nat.reduceSub]
  exact hVQ _ _ ⟨rfl, rfl⟩
theorem fits_b {q : Nat} (hq : q < 128) : fits (zty 1) (.int (nI q)) = true := by
  have : ∀ q, q < 128 → fits (zty 1) (.int (nI q)) = true := by decide
  exact this q hq
theorem zJ15_copyRB {va n : Nat} {f : Nat → Nat} (ht : zt h va = 1) (hn16 : zn h va = 16) (hz : va < z) (hn : n ≤ 8) (hf : ∀ i, i < n → S va i = nI (f i) ∧ f i < 128) : zM l E 1 YJ15_copyOfRangeByte [.ref va, .int (nI 0), .int (nI n)] (z, h, S, L) 1 n (fun r X => r = some (.ref z) ∧ ∃ S', X = (z + 1, hN h z (1, n, fun _ => none), S', LN L z) ∧ (∀ a, a ≠ z → S' a = S a) ∧ ∀ i, i < n → S' z i = nI (f i)) (fun _ _ => False) := by
  refine zM.go rfl rfl (Nat.le_of_ble_eq_true rfl) (ls := [some (.ref va), some (.int (nI 0)), some (.int (nI n)), none, none]) rfl ?_
  intro V hVl hVE hVd hVc hVs hVQ hVX
  have hp : (nI n < (0 : Int32)) = False := eq_false (nI_pos (by omega))
  have hp0 : (nI 0 < (0 : Int32)) = False := eq_false (by decide)
  have hm : minF (nI 16) (nI n) = nI n := by rw [minF_N (by omega) (by omega), Nat.min_eq_right (by omega)]
  have hfit : ∀ i, i < n → fits (zty 1) (.int (SN S z va (0 + i))) = true := fun i hi => by
    rw [SN_o (by omega), Nat.zero_add, (hf i hi).1]; exact fits_b (hf i hi).2
  refine sJ15_copyOfRangeByte_0 _ _ _ _ _ ?_
  simp (disch := omega) only [oCS, oIld, List.getElem?_cons_zero, List.getElem?_cons_succ, List.set_cons_zero, List.set_cons_succ, List.drop_succ_cons, List.drop_zero, List.take_succ_cons, List.take_zero, List.length_cons, List.length_nil, List.reverse_cons, List.reverse_nil, List.nil_append, List.cons_append, Option.toList_some, Option.toList_none, va_rf_s, true_and, and_true, true_implies, false_implies, not_true_eq_false, not_false_eq_true, Nat.reduceAdd, Nat.reduceLeDiff, Nat.le_add_left, Nat.zero_le, Nat.le_refl, znew, true_or, or_true, b01_t, b01_f, b01_ok, bool_ft, vp_b01, vp_b0, vp_b1, b01_eq0, b01_eq1, implies_true, nI_add, nI_clamp, zi_in, zi_le_t, zi_le_f, zi_lt_t, zi_lt_f, zi_eq_t, zi_eq_f, nI_leI, nI_ltI, nI_eq, z_in, pk_mul, zu_same, zu_rw, zu_ix, zi_ne0, zi_sub, zi_m1, Nat.add_sub_cancel, Nat.reduceMul, Nat.reduceSub]
  refine zC.of0 (zJ15_checkLength (by omega) _) (by omega) (Nat.zero_le _) (Nat.zero_le _) ?_
  rintro _ _ ⟨rfl, rfl⟩
  refine sJ15_copyOfRangeByte_5 (by omega) _ _ _ _ _ ?_
  simp (disch := omega) only [oAld, oAst, oBin, oCopy, oIld, oIst, oLen, oM2, oNewa, oPush, oRA, Nat.sub_zero, ht, hn16, hp, hp0, hm, hVc, hVs, List.getElem?_cons_zero, List.getElem?_cons_succ, List.set_cons_zero, List.set_cons_succ, List.drop_succ_cons, List.drop_zero, List.take_succ_cons, List.take_zero, List.length_cons, List.length_nil, List.reverse_cons, List.reverse_nil, List.nil_append, List.cons_append, Option.toList_some, Option.toList_none, va_rf_s, true_and, and_true, true_implies, false_implies, not_true_eq_false, not_false_eq_true, Nat.reduceAdd, Nat.reduceLeDiff, Nat.le_add_left, Nat.zero_le, Nat.le_refl, true_or, or_true, b01_t, b01_f, b01_ok, bool_ft, vp_b01, vp_b0, vp_b1, b01_eq0, b01_eq1, implies_true, zneq, hN_ts, hN_to, hN_ns, hN_no, hN_rs, hN_ro, SN_s, SN_o, zur_t, zur_n, zur_rs, zur_rk, zur_ro, nI_add, nI_clamp, zi_in, zi_le_t, zi_le_f, zi_lt_t, zi_lt_f, zi_eq_t, zi_eq_f, nI_leI, nI_ltI, nI_eq, z_in, pk_mul, zu_same, zu_rw, zu_ix, zi_ne0, zi_sub, zi_m1, Nat.add_sub_cancel, Nat.reduceMul, Nat.reduceSub]
  refine ⟨by omega, by omega, by omega, ⟨by omega, by omega⟩, fun i hi => ?_, hVQ _ _ ⟨rfl, _, rfl, fun a ha => ?_, fun i hi => ?_⟩, by omega⟩
  · rw [Nat.zero_add, (hf i hi).1]; exact fits_b (hf i hi).2
  · unfold zcp; rw [if_neg ha, SN_o ha]
  · unfold zcp va_cpy
    rw [if_pos rfl, if_pos (by omega), SN_o (by omega), Nat.zero_add, Nat.sub_zero]; exact (hf i hi).1
theorem zJ15_copyR {va n : Nat} {f : Nat → Nat} (ht : zt h va = 1) (hn16 : zn h va = 16) (hz : va < z) (hn : n ≤ 8) (hf : ∀ i, i < n → S va i = nI (f i) ∧ f i < 128) : zM l E 2 YJ15_copyOfRange [.ref va, .int (nI 0), .int (nI n)] (z, h, S, L) 1 n (fun r X => r = some (.ref z) ∧ ∃ S', X = (z + 1, hN h z (1, n, fun _ => none), S', LN L z) ∧ (∀ a, a ≠ z → S' a = S a) ∧ ∀ i, i < n → S' z i = nI (f i)) (fun _ _ => False) := by
  refine zM.go rfl rfl (Nat.le_of_ble_eq_true rfl) (ls := [some (.ref va), some (.int (nI 0)), some (.int (nI n))]) rfl ?_
  intro V hVl hVE hVd hVc hVs hVQ hVX
  refine sJ15_copyOfRange_0 _ _ _ _ _ ?_
  simp (disch := omega) only [oAld, oBot, oCS, oIf, oIfc, oIld, oLen, ht, hn16, List.getElem?_cons_zero, List.getElem?_cons_succ, List.set_cons_zero, List.set_cons_succ, List.drop_succ_cons, List.drop_zero, List.take_succ_cons, List.take_zero, List.length_cons, List.length_nil, List.reverse_cons, List.reverse_nil, List.nil_append, List.cons_append, Option.toList_some, Option.toList_none, va_rf_s, true_and, and_true, true_implies, false_implies, not_true_eq_false, not_false_eq_true, Nat.reduceAdd, Nat.reduceLeDiff, Nat.le_add_left, Nat.zero_le, Nat.le_refl, znew, true_or, or_true, b01_t, b01_f, b01_ok, bool_ft, vp_b01, vp_b0, vp_b1, b01_eq0, b01_eq1, implies_true, nI_add, nI_clamp, zi_in, zi_le_t, zi_le_f, zi_lt_t, zi_lt_f, zi_eq_t, zi_eq_f, nI_leI, nI_ltI, nI_eq, z_in, pk_mul, zu_same, zu_rw, zu_ix, zi_ne0, zi_sub, zi_m1, Nat.add_sub_cancel, Nat.reduceMul, Nat.reduceSub]
  refine zC.ofN (zJ15_copyRB ht hn16 hz hn hf) (by omega) (by omega) (by omega) ?_
  rintro _ _ ⟨rfl, S', rfl, g1, g2⟩
  refine sJ15_copyOfRange_16 _ _ _ _ _ ?_
  simp (disch := omega) only [oRA, hVc, hVs, List.getElem?_cons_zero, List.getElem?_cons_succ, List.set_cons_zero, List.set_cons_succ, List.drop_succ_cons, List.drop_zero, List.take_succ_cons, List.take_zero, List.length_cons, List.length_nil, List.reverse_cons, List.reverse_nil, List.nil_append, List.cons_append, Option.toList_some, Option.toList_none, va_rf_s, true_and, and_true, true_implies, false_implies, not_true_eq_false, not_false_eq_true, Nat.reduceAdd, Nat.reduceLeDiff, Nat.le_add_left, Nat.zero_le, Nat.le_refl, znew, true_or, or_true, b01_t, b01_f, b01_ok, bool_ft, vp_b01, vp_b0, vp_b1, b01_eq0, b01_eq1, implies_true, nI_add, nI_clamp, zi_in, zi_le_t, zi_le_f, zi_lt_t, zi_lt_f, zi_eq_t, zi_eq_f, nI_leI, nI_ltI, nI_eq, z_in, pk_mul, zu_same, zu_rw, zu_ix, zi_ne0, zi_sub, zi_m1, Nat.add_sub_cancel, Nat.reduceMul, Nat.reduceSub]
  exact ⟨hVQ _ _ ⟨rfl, S', rfl, g1, g2⟩, by omega⟩
theorem zJ8_init_2 {sa sb va : Nat} {w : List Nat} (hc : csZ E) (ha : zt h sa = 32) (hz : sa < z) (hzv : va < z) (hs : isSb h S sb va w) (hne : sa ≠ va ∧ sa ≠ sb) : zM l E 3 YJ8_init_2 [.ref sa, .ref sb, .null] (z, h, S, L) 1 w.length (fun r X => r = none ∧ ∃ h' S' L', X = (z + 1, h', S', L') ∧ gw (fun a => a = sa) (z, h, S, L) (z + 1, h', S', L') ∧ isSt h' S' (fun a => a = sa ∨ a = z) sa w) (fun _ _ => False) := by
  obtain ⟨s1, s2, s3, s4, ⟨s5, s6, s7⟩, s8, s9⟩ := id hs
  refine zM.go rfl rfl (Nat.le_of_ble_eq_true rfl) (ls := [some (.ref sa), some (.ref sb), some .null, none, none]) rfl ?_
  intro V hVl hVE hVd hVc hVs hVQ hVX
  refine sJ8_init_2_0 (by omega) _ _ _ _ _ ?_
  simp (disch := omega) only [oAld, oCV, oObj, s1, List.getElem?_cons_zero, List.getElem?_cons_succ, List.set_cons_zero, List.set_cons_succ, List.drop_succ_cons, List.drop_zero, List.take_succ_cons, List.take_zero, List.length_cons, List.length_nil, List.reverse_cons, List.reverse_nil, List.nil_append, List.cons_append, Option.toList_some, Option.toList_none, va_rf_s, true_and, and_true, true_implies, false_implies, not_true_eq_false, not_false_eq_true, Nat.reduceAdd, Nat.reduceLeDiff, Nat.le_add_left, Nat.zero_le, Nat.le_refl, znew, true_or, or_true, b01_t, b01_f, b01_ok, bool_ft, vp_b01, vp_b0, vp_b1, b01_eq0, b01_eq1, implies_true, nI_add, nI_clamp, zi_in, zi_le_t, zi_le_f, zi_lt_t, zi_lt_f, zi_eq_t, zi_eq_f, nI_leI, nI_ltI, nI_eq, z_in, pk_mul, zu_same, zu_rw, zu_ix, zi_ne0, zi_sub, zi_m1, Nat.add_sub_cancel, Nat.reduceMul, Nat.reduceSub]
  refine zC.of0 (zJ11_getValue hs) (by omega) (Nat.zero_le _) (Nat.zero_le _) ?_
  rintro _ _ ⟨rfl, rfl⟩
  refine sJ8_init_2_8 _ _ _ _ _ ?_
  simp (disch := omega) only [oAld, oAst, oCV, s1, List.getElem?_cons_zero, List.getElem?_cons_succ, List.set_cons_zero, List.set_cons_succ, List.drop_succ_cons, List.drop_zero, List.take_succ_cons, List.take_zero, List.length_cons, List.length_nil, List.reverse_cons, List.reverse_nil, List.nil_append, List.cons_append, Option.toList_some, Option.toList_none, va_rf_s, true_and, and_true, true_implies, false_implies, not_true_eq_false, not_false_eq_true, Nat.reduceAdd, Nat.reduceLeDiff, Nat.le_add_left, Nat.zero_le, Nat.le_refl, znew, true_or, or_true, b01_t, b01_f, b01_ok, bool_ft, vp_b01, vp_b0, vp_b1, b01_eq0, b01_eq1, implies_true, nI_add, nI_clamp, zi_in, zi_le_t, zi_le_f, zi_lt_t, zi_lt_f, zi_eq_t, zi_eq_f, nI_leI, nI_ltI, nI_eq, z_in, pk_mul, zu_same, zu_rw, zu_ix, zi_ne0, zi_sub, zi_m1, Nat.add_sub_cancel, Nat.reduceMul, Nat.reduceSub]
  refine zC.of0 (zJ12_length hs) (by omega) (Nat.zero_le _) (Nat.zero_le _) ?_
  rintro _ _ ⟨rfl, rfl⟩
  refine sJ8_init_2_13 _ _ _ _ _ ?_
  simp (disch := omega) only [oAld, oCV, oIst, s1, List.getElem?_cons_zero, List.getElem?_cons_succ, List.set_cons_zero, List.set_cons_succ, List.drop_succ_cons, List.drop_zero, List.take_succ_cons, List.take_zero, List.length_cons, List.length_nil, List.reverse_cons, List.reverse_nil, List.nil_append, List.cons_append, Option.toList_some, Option.toList_none, va_rf_s, true_and, and_true, true_implies, false_implies, not_true_eq_false, not_false_eq_true, Nat.reduceAdd, Nat.reduceLeDiff, Nat.le_add_left, Nat.zero_le, Nat.le_refl, znew, true_or, or_true, b01_t, b01_f, b01_ok, bool_ft, vp_b01, vp_b0, vp_b1, b01_eq0, b01_eq1, implies_true, nI_add, nI_clamp, zi_in, zi_le_t, zi_le_f, zi_lt_t, zi_lt_f, zi_eq_t, zi_eq_f, nI_leI, nI_ltI, nI_eq, z_in, pk_mul, zu_same, zu_rw, zu_ix, zi_ne0, zi_sub, zi_m1, Nat.add_sub_cancel, Nat.reduceMul, Nat.reduceSub]
  refine zC.of0 (zJ11_isLatin1 (by rw [hVE]; exact hc) hs) (by omega) (Nat.zero_le _) (Nat.zero_le _) ?_
  rintro _ _ ⟨rfl, rfl⟩
  refine sJ8_init_2_19 _ _ _ _ _ ?_
  simp (disch := omega) only [oAld, oBot, oCS, oIf, oIld, oPI, oPush, ha, List.getElem?_cons_zero, List.getElem?_cons_succ, List.set_cons_zero, List.set_cons_succ, List.drop_succ_cons, List.drop_zero, List.take_succ_cons, List.take_zero, List.length_cons, List.length_nil, List.reverse_cons, List.reverse_nil, List.nil_append, List.cons_append, Option.toList_some, Option.toList_none, va_rf_s, true_and, and_true, true_implies, false_implies, not_true_eq_false, not_false_eq_true, Nat.reduceAdd, Nat.reduceLeDiff, Nat.le_add_left, Nat.zero_le, Nat.le_refl, znew, true_or, or_true, b01_t, b01_f, b01_ok, bool_ft, vp_b01, vp_b0, vp_b1, b01_eq0, b01_eq1, implies_true, nI_add, nI_clamp, zi_in, zi_le_t, zi_le_f, zi_lt_t, zi_lt_f, zi_eq_t, zi_eq_f, nI_leI, nI_ltI, nI_eq, z_in, pk_mul, zu_same, zu_rw, zu_ix, zi_ne0, zi_sub, zi_m1, Nat.add_sub_cancel, Nat.reduceMul, Nat.reduceSub]
  have hf : ∀ i, i < w.length → zu S sa 1 (nI 0) va i = nI (w.getD i 0 + 96) ∧ w.getD i 0 + 96 < 128 := fun i hi => by
    rw [zu_rw _ _ (Ne.symm hne.1)]; have := s9 i hi; exact ⟨this.1, by omega⟩
  refine zC.ofN (zJ15_copyR (S := zu S sa 1 (nI 0)) s5 s6 hzv s8 hf) (by omega) (by omega) (by omega) ?_
  rintro _ _ ⟨rfl, S', rfl, g1, g2⟩
  have e1 := hN_to (h := h) (z := z) (a := sa) (q := (1, w.length, fun _ => none)) (by omega)
  rw [ha] at e1
  refine sJ8_init_2_35 _ _ _ _ _ ?_
  simp (disch := omega) only [oNop, oPR, oRV, e1, hVc, hVs, List.getElem?_cons_zero, List.getElem?_cons_succ, List.set_cons_zero, List.set_cons_succ, List.drop_succ_cons, List.drop_zero, List.take_succ_cons, List.take_zero, List.length_cons, List.length_nil, List.reverse_cons, List.reverse_nil, List.nil_append, List.cons_append, Option.toList_some, Option.toList_none, va_rf_s, true_and, and_true, true_implies, false_implies, not_true_eq_false, not_false_eq_true, Nat.reduceAdd, Nat.reduceLeDiff, Nat.le_add_left, Nat.zero_le, Nat.le_refl, znew, true_or, or_true, b01_t, b01_f, b01_ok, bool_ft, vp_b01, vp_b0, vp_b1, b01_eq0, b01_eq1, implies_true, nI_add, nI_clamp, zi_in, zi_le_t, zi_le_f, zi_lt_t, zi_lt_f, zi_eq_t, zi_eq_f, nI_leI, nI_ltI, nI_eq, z_in, pk_mul, zu_same, zu_rw, zu_ix, zi_ne0, zi_sub, zi_m1, Nat.add_sub_cancel, Nat.reduceMul, Nat.reduceSub]
  refine ⟨hVQ _ _ ⟨rfl, _, _, _, rfl, ⟨Nat.le_succ _, fun a hlt => ⟨fun hw => ⟨?_, ?_⟩, ?_⟩⟩, ?_⟩, by omega⟩
  · show zur (hN h z _) sa 0 _ a = h a
    rw [zur_ne hw, hN_o (by omega)]
  · show S' a = S a
    rw [g1 a (by omega), zu_rw _ _ hw]
  · exact LN_o (by omega)
  · refine ⟨Or.inl rfl, ?_, ?_, z, Or.inr rfl, zur_rs, ?_, ?_, s8, fun i hi => ⟨g2 i hi, (s9 i hi).2⟩⟩
    · rw [zur_t]; exact e1
    · rw [g1 sa (by omega), zu_same]
    · rw [zur_t]; exact hN_ts
    · rw [zur_n]; exact hN_ns
theorem zJ12_toString {sb va : Nat} {w : List Nat} (hc : csZ E) (hz : sb < z) (hzv : va < z) (hs : isSb h S sb va w) : zM l E 5 YJ12_toString [.ref sb] (z, h, S, L) 2 (4 + w.length) (fun r X => r = some (.ref z) ∧ ∃ h' S' L', X = (z + 2, h', S', L') ∧ gw (fun _ => False) (z, h, S, L) (z + 2, h', S', L') ∧ isSt h' S' (fun a => z ≤ a ∧ a < z + 2) z w) (fun _ _ => False) := by
  obtain ⟨s1, s2, s3, s4, ⟨s5, s6, s7⟩, s8, s9⟩ := id hs
  have base : ∀ l' E', csZ E' → ∀ {z : Nat} {h : Nat → Option zSh} {S : Nat → Nat → Int32} {L : Nat → Nat → Int64} {sa : Nat}, zt h sa = 32 → sa < z → va < z → isSb h S sb va w → sa ≠ va ∧ sa ≠ sb → zM l' E' 4 YJ8_init [.ref sa, .ref sb] (z, h, S, L) 1 w.length (fun r X => r = none ∧ ∃ h' S' L', X = (z + 1, h', S', L') ∧ gw (fun a => a = sa) (z, h, S, L) (z + 1, h', S', L') ∧ isSt h' S' (fun a => a = sa ∨ a = z) sa w) (fun _ _ => False) := by
    intro l' E' hc z h S L sa k1 k2 k3 k4 k5
    refine zM.go rfl rfl (Nat.le_of_ble_eq_true rfl) (ls := [some (.ref sa), some (.ref sb)]) rfl ?_
    intro V hVl hVE hVd hVc hVs hVQ hVX
    refine sJ8_init_0 _ _ _ _ _ ?_
    simp (disch := omega) only [oAld, oCI, oPush, List.getElem?_cons_zero, List.getElem?_cons_succ, List.set_cons_zero, List.set_cons_succ, List.drop_succ_cons, List.drop_zero, List.take_succ_cons, List.take_zero, List.length_cons, List.length_nil, List.reverse_cons, List.reverse_nil, List.nil_append, List.cons_append, Option.toList_some, Option.toList_none, va_rf_s, true_and, and_true, true_implies, false_implies, not_true_eq_false, not_false_eq_true, Nat.reduceAdd, Nat.reduceLeDiff, Nat.le_add_left, Nat.zero_le, Nat.le_refl, znew, true_or, or_true, b01_t, b01_f, b01_ok, bool_ft, vp_b01, vp_b0, vp_b1, b01_eq0, b01_eq1, implies_true, nI_add, nI_clamp, zi_in, zi_le_t, zi_le_f, zi_lt_t, zi_lt_f, zi_eq_t, zi_eq_f, nI_leI, nI_ltI, nI_eq, z_in, pk_mul, zu_same, zu_rw, zu_ix, zi_ne0, zi_sub, zi_m1, Nat.add_sub_cancel, Nat.reduceMul, Nat.reduceSub]
    refine zC.ofN (zJ8_init_2 (by rw [hVE]; exact hc) k1 k2 k3 k4 k5) (by omega) (by omega) (by omega) ?_
    rintro _ _ ⟨rfl, h', S', L', rfl, g1, g2⟩
    refine sJ8_init_6 _ _ _ _ _ ?_
    simp (disch := omega) only [oRV, hVc, hVs, List.getElem?_cons_zero, List.getElem?_cons_succ, List.set_cons_zero, List.set_cons_succ, List.drop_succ_cons, List.drop_zero, List.take_succ_cons, List.take_zero, List.length_cons, List.length_nil, List.reverse_cons, List.reverse_nil, List.nil_append, List.cons_append, Option.toList_some, Option.toList_none, va_rf_s, true_and, and_true, true_implies, false_implies, not_true_eq_false, not_false_eq_true, Nat.reduceAdd, Nat.reduceLeDiff, Nat.le_add_left, Nat.zero_le, Nat.le_refl, znew, true_or, or_true, b01_t, b01_f, b01_ok, bool_ft, vp_b01, vp_b0, vp_b1, b01_eq0, b01_eq1, implies_true, nI_add, nI_clamp, zi_in, zi_le_t, zi_le_f, zi_lt_t, zi_lt_f, zi_eq_t, zi_eq_f, nI_leI, nI_ltI, nI_eq, z_in, pk_mul, zu_same, zu_rw, zu_ix, zi_ne0, zi_sub, zi_m1, Nat.add_sub_cancel, Nat.reduceMul, Nat.reduceSub]
    exact ⟨hVQ _ _ ⟨rfl, h', S', L', rfl, g1, g2⟩, by omega⟩
  refine zM.go rfl rfl (Nat.le_of_ble_eq_true rfl) (ls := [some (.ref sb)]) rfl ?_
  intro V hVl hVE hVd hVc hVs hVQ hVX
  refine sJ12_toString_0 _ _ _ _ _ ?_
  simp (disch := omega) only [oAld, oCI, oDup, oNew, hVc, hVs, List.getElem?_cons_zero, List.getElem?_cons_succ, List.set_cons_zero, List.set_cons_succ, List.drop_succ_cons, List.drop_zero, List.take_succ_cons, List.take_zero, List.length_cons, List.length_nil, List.reverse_cons, List.reverse_nil, List.nil_append, List.cons_append, Option.toList_some, Option.toList_none, va_rf_s, true_and, and_true, true_implies, false_implies, not_true_eq_false, not_false_eq_true, Nat.reduceAdd, Nat.reduceLeDiff, Nat.le_add_left, Nat.zero_le, Nat.le_refl, true_or, or_true, b01_t, b01_f, b01_ok, bool_ft, vp_b01, vp_b0, vp_b1, b01_eq0, b01_eq1, implies_true, zneq, hN_ts, hN_to, hN_ns, hN_no, hN_rs, hN_ro, SN_s, SN_o, zur_t, zur_n, zur_rs, zur_rk, zur_ro, nI_add, nI_clamp, zi_in, zi_le_t, zi_le_f, zi_lt_t, zi_lt_f, zi_eq_t, zi_eq_f, nI_leI, nI_ltI, nI_eq, z_in, pk_mul, zu_same, zu_rw, zu_ix, zi_ne0, zi_sub, zi_m1, Nat.add_sub_cancel, Nat.reduceMul, Nat.reduceSub]
  refine ⟨by omega, ?_⟩
  have hs' : isSb (hN h z (32, 0, fun _ => none)) (SN S z) sb va w := by
    refine ⟨by rw [hN_to (by omega)]; exact s1, by rw [hN_ro (by omega)]; exact s2, by rw [SN_o (by omega)]; exact s3, by rw [SN_o (by omega)]; exact s4, ⟨by rw [hN_to (by omega)]; exact s5, by rw [hN_no (by omega)]; exact s6, s7⟩, s8, fun i hi => by rw [SN_o (by omega)]; exact s9 i hi⟩
  refine zC.ofN (base V.1 V.2.1 (by rw [hVE]; exact hc) (z := z + 1) (sa := z) hN_ts (by omega) (by omega) hs' ⟨by omega, by omega⟩) (by omega) (by omega) (by omega) ?_
  rintro _ _ ⟨rfl, h', S', L', rfl, g1, g2⟩
  refine sJ12_toString_8 _ _ _ _ _ ?_
  simp (disch := omega) only [oRA, hVc, hVs, List.getElem?_cons_zero, List.getElem?_cons_succ, List.set_cons_zero, List.set_cons_succ, List.drop_succ_cons, List.drop_zero, List.take_succ_cons, List.take_zero, List.length_cons, List.length_nil, List.reverse_cons, List.reverse_nil, List.nil_append, List.cons_append, Option.toList_some, Option.toList_none, va_rf_s, true_and, and_true, true_implies, false_implies, not_true_eq_false, not_false_eq_true, Nat.reduceAdd, Nat.reduceLeDiff, Nat.le_add_left, Nat.zero_le, Nat.le_refl, znew, true_or, or_true, b01_t, b01_f, b01_ok, bool_ft, vp_b01, vp_b0, vp_b1, b01_eq0, b01_eq1, implies_true, nI_add, nI_clamp, zi_in, zi_le_t, zi_le_f, zi_lt_t, zi_lt_f, zi_eq_t, zi_eq_f, nI_leI, nI_ltI, nI_eq, z_in, pk_mul, zu_same, zu_rw, zu_ix, zi_ne0, zi_sub, zi_m1, Nat.add_sub_cancel, Nat.reduceMul, Nat.reduceSub]
  refine hVQ _ _ ⟨rfl, h', S', L', rfl, ⟨Nat.le_add_right _ _, fun a ha => ?_⟩, ?_⟩
  · have ha' : a < z := ha
    have q := g1.2 a (show a < z + 1 by omega)
    have q1 := q.1 (show ¬ a = z by omega)
    exact ⟨fun _ => ⟨q1.1.trans (hN_o (by omega)), q1.2.trans (SN_o (by omega))⟩, q.2.trans (LN_o (by omega))⟩
  · exact g2.fr (fun _ _ => rfl) (fun _ _ => rfl) (fun a ha => by omega)
end EB
