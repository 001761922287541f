/-! the component's parser: a text is read -/
section FM0
variable {A : List zTk}
theorem ml1 {α β : Type} {y : zPR α} {g : α → zPR (β × zCu)} (h : ∀ a, y = .ok a → mx (g a) ≤ 401) : mx (pB y g) ≤ 401 := by
  cases y with
  | error e => exact Nat.le_refl _
  | ok a => exact h a rfl
theorem lst_le {acc : List zBr3} {q : zCu} (hq : q.1 ≤ 400) : mx (pLst A acc q) ≤ 401 := ml1 (fun r hr => by have := (rdX_ok A 6 q r.1 r.2 hr hq).1.2.2; show r.2.1 ≤ 401; omega)
theorem lw_le : ∀ f, ∀ acc q, q.1 ≤ 400 → mx (pLwL A f acc q) ≤ 401 := by
  intro f
  induction f with
  | zero =>
    intro acc q hq
    show mx (if tkK A q.1 = 31 then pErr A 2 q.1 else pLst A acc q) ≤ 401
    split
    · exact Nat.le_refl _
    · exact lst_le hq
  | succ f ih =>
    intro acc q hq
    rw [lwL_s]
    split
    · exact ml1 (fun q1 h1 => ml1 (fun r1 hr1 => by
        have b1 := (rdX_ok A 6 q1 r1.1 r1.2 hr1 (go4 h1 hq)).1.2.2
        exact ml1 (fun q2 h2 => ml1 (fun r2 hr2 => by
          have b2 := (rdX_ok A 6 q2 r2.1 r2.2 hr2 (mu4 h2 b1)).1.2.2
          exact ml1 (fun q3 h3 => ml1 (fun r3 hr3 => by
            have b3 := (rdX_ok A 6 q3 r3.1 r3.2 hr3 (mu4 h3 b2)).1.2.2
            exact ml1 (fun q4 h4 => ih _ q4 (mu4 h4 b3))))))))
    · exact lst_le hq
theorem n4 {has : List Nat → Bool} {q q2 : zCu} (h : pName A has q = .ok q2) (hq : q.1 ≤ 400) : q2.1 ≤ 400 := by have := nme_ok h; omega
theorem k4 {kn : List Nat → Option Nat} {q : zCu} {r : Option Nat × zCu} (h : pKn A kn q = .ok r) (hq : q.1 ≤ 400) : r.2.1 ≤ 400 := by have := kn_ok (v := r.1) (q2 := r.2) h; omega
theorem u4 {lo hi : Nat} {q : zCu} {r : Nat × zCu} (h : pNum A lo hi q = .ok r) (hq : q.1 ≤ 400) : r.2.1 ≤ 400 := by have := num_ok (v := r.1) (q2 := r.2) h; omega
theorem o4 {n m : Nat} {q q2 : zCu} (h : pOpen A n m q = .ok q2) (hq : q.1 ≤ 400) : q2.1 ≤ 400 := by
  obtain ⟨e, h4, -⟩ := open_ok h
  rw [e]; show q.1 + 1 ≤ 400; omega
theorem stm_le {x : zTx} {q : zCu} (hq : q.1 ≤ 400) : mx (qStm A (x, q)) ≤ 401 := by
  show mx (if tkK A q.1 = 20 then pB (pOpen A (xC x).length 7 q) (qCor A x) else if tkK A q.1 = 21 then pB (pOpen A (xS x).length 10 q) (qStr A x) else if tkK A q.1 = 22 then pB (pOpen A (xY x).length 6 q) (qYou A x) else if tkK A q.1 = 23 then pB (pOpen A (xW x).length 5 q) (qWor A x) else if tkK A q.1 = 24 then pB (pGo A q) (qLig A x) else if tkK A q.1 = 29 then pB (pGo A q) (qDra A x) else if tkK A q.1 = 30 then pB (pGo A q) (qSee A x) else if 25 ≤ tkK A q.1 ∧ tkK A q.1 ≤ 28 then pB (pGo A q) (qLwS A x (tkK A q.1 - 25)) else pErr A 1 q.1) ≤ 401
  split
  · exact ml1 (fun q1 h1 => ml1 (fun q2 h2 => by have := n4 h2 (o4 h1 hq); show q2.1 ≤ 401; omega))
  split
  · exact ml1 (fun q1 h1 => ml1 (fun r1 h2 => ml1 (fun r2 h3 => ml1 (fun r3 h4 => by
      have b2 := k4 h3 (k4 h2 (o4 h1 hq))
      have := u4 h4 (show (r2.2.1, _).1 ≤ 400 from b2); show r3.2.1 ≤ 401; omega))))
  split
  · exact ml1 (fun q1 h1 => ml1 (fun q2 h2 => ml1 (fun r3 h3 => ml1 (fun r4 h4 => ml1 (fun r5 h5 => by
      have := k4 h5 (u4 h4 (u4 h3 (n4 h2 (o4 h1 hq)))); show r5.2.1 ≤ 401; omega)))))
  split
  · exact ml1 (fun q1 h1 => ml1 (fun q2 h2 => ml1 (fun r3 h3 => by have := u4 h3 (n4 h2 (o4 h1 hq)); show r3.2.1 ≤ 401; omega)))
  split
  · exact ml1 (fun q1 h1 => ml1 (fun r h2 => by have := k4 h2 (go4 h1 hq); show r.2.1 ≤ 401; omega))
  split
  · exact ml1 (fun q1 h1 => ml1 (fun r h2 => by have := u4 h2 (go4 h1 hq); show r.2.1 ≤ 401; omega))
  split
  · exact ml1 (fun q1 h1 => ml1 (fun r h2 => by have := u4 h2 (go4 h1 hq); show r.2.1 ≤ 401; omega))
  split
  · refine ml1 (fun q1 h1 => ?_)
    have hl : mx (pLaw A q1) ≤ 401 := ml1 (fun q2 h2 => lw_le 4 _ q2 (mu4 h2 (go4 h1 hq)))
    show mx (pB (pLaw A q1) (fun r => .ok (setA x (tkK A q.1 - 25) r.1, r.2))) ≤ 401
    cases hp : pLaw A q1 with
    | error e => exact Nat.le_refl _
    | ok r => rw [hp] at hl; exact hl
  · exact Nat.le_refl _
end FM0
/-- what reading changes of what stood -/
def rdF (c z : Nat) (X X' : zX) : Prop := z ≤ X'.1 ∧ (∀ a, a < z → (a ≠ c + 9 → X'.2.1 a = X.2.1 a) ∧ (a ≠ c + 1 → a ≠ c + 2 → ¬ (c + 5 ≤ a ∧ a ≤ c + 9) → X'.2.2.1 a = X.2.2.1 a) ∧ X'.2.2.2 a = X.2.2.2 a) ∧ (∀ j, j ≠ 7 → X'.2.2.1 (c + 2) j = X.2.2.1 (c + 2) j) ∧ zt X'.2.1 (c + 9) = zt X.2.1 (c + 9) ∧ ∀ k, k ≠ 2 → zr X'.2.1 (c + 9) k = zr X.2.1 (c + 9) k
section FM
variable {l : Launch} {E : zE} {z : Nat} {h : Nat → Option zSh} {S : Nat → Nat → Int32} {L : Nat → Nat → Int64} {c : Nat} {P : List Int32} {adK adV : Nat → Nat} {oF : Option Nat} {dE : Nat}
theorem getD_left {α : Type} {K R : List α} {d : α} {j : Nat} (hj : j < K.length) : (K ++ R).getD j d = K.getD j d := by
  rw [List.getD_eq_getElem?_getD, List.getD_eq_getElem?_getD, List.getElem?_append_left hj]
theorem pX.mk {h : Nat → Option zSh} {S : Nat → Nat → Int32} {z : Nat} (hB : isC h c) (hcz : c + 606 ≤ z) (hP : cP S c P) (hBy : isBy P) (hT : cTk c S P) : ∃ N, pX c z h S P (tkA P) N := by
  obtain ⟨K, R, a1, a2, a3, a4, a5, a6⟩ := hT
  refine ⟨K.length, hB, hcz, hP, hBy, ⟨a3, by rw [a1, List.length_append]; omega, a2⟩, fun j hj => ?_, fun j hj => ?_, ?_⟩
  · rw [a1, getD_left hj]; exact a4.2 j hj
  · unfold tkK; rw [a1, getD_left (by omega)]; exact a5 j hj
  · unfold tkK; rw [a1, getD_left (by omega)]; exact a6
theorem txP.hs {h' : Nat → Option zSh} {S' : Nat → Nat → Int32} {ta : Nat} {eA : Nat → Nat} {B : Nat → Nat → Nat} {x : zTx} (hp : txP z h S ta dE eA B x) (hh : ∀ y, ta ≤ y → h' y = h y) (hS : ∀ y, ta ≤ y → S' y = S y) : txP z h' S' ta dE eA B x := by
  obtain ⟨⟨a1, a2, a3, a4, a5⟩, b, d, e, f, f2, f3⟩ := hp
  have ft : ∀ y, ta ≤ y → zt h' y = zt h y ∧ zn h' y = zn h y ∧ zr h' y = zr h y := fun y hy => by unfold zt zn zr; rw [hh y hy]; exact ⟨rfl, rfl, rfl⟩
  refine ⟨⟨by rw [(ft _ (by omega)).1]; exact a1, fun k hk => by rw [(ft _ (by omega)).2.2]; exact a2 k hk, by rw [(ft _ (by omega)).2.2]; exact a3, by rw [(ft _ (by omega)).1]; exact a4, by rw [(ft _ (by omega)).2.1]; exact a5⟩, fun k hk => ?_, ?_, by rw [hS ta (by omega)]; exact e, f, f2, f3⟩
  · obtain ⟨b1, b2, b3, b4, b5⟩ := b k hk
    refine ⟨by rw [(ft _ (by omega)).1]; exact b1, by rw [hS _ (by omega)]; exact b2, b3, fun h0 => by rw [(ft _ (by omega)).2.2]; exact b4 h0, fun h0 => ?_⟩
    obtain ⟨c1, c2, c3, c4⟩ := b5 h0
    have := f2 k hk h0
    exact ⟨by rw [(ft _ (by omega)).2.2]; exact c1, by rw [(ft _ (by omega)).1]; exact c2, by rw [(ft _ (by omega)).2.1]; exact c3, fun i hi => by rw [(ft _ (by omega)).2.2]; exact c4 i hi⟩
  · rw [(ft (ta + 5) (by omega)).2.2]
    exact d.fr (fun y hy => hS y (by have := hy.1; omega)) (fun y hy => hh y (by have := hy.1; omega)) (fun y hy => hy)
theorem pG.t2 {z1 : Nat} {h1 : Nat → Option zSh} {S1 : Nat → Nat → Int32} {L1 : Nat → Nat → Int64} {X : zX} (g : pG c (z, h, S, L) (z1, h1, S1, L1)) (g2 : pG c (z, h1, S1, L1) X) : pG c (z, h, S, L) X := pG.tr (X' := (z, h1, S1, L1)) ⟨Nat.le_refl _, g.2⟩ g2
theorem zX3_read (hc : csZ E) (hs : siZ E oF) (he : seN E) (hd : dfZ E dE) (hK : cKw E h c adK adV) (hB : isC h c) (hcz : c + 606 ≤ z) (hP : cP S c P) (hBy : isBy P) : zM l E 125 YX3_read [.ref (c + 9)] (z, h, S, L) 2412 16064 (fun r X => r = some (.ref z) ∧ ∃ x z' h' S' L' eA B, pTxt P = .ok x ∧ X = (z', h', S', L') ∧ rdF c z (z, h, S, L) (z', h', S', L') ∧ txP z' h' S' z dE eA B x ∧ xB x) (fun a X => ∃ e z' h' S' L', pTxt P = .error e ∧ a = c + 1 ∧ X = (z', h', S', L') ∧ rdF c z (z, h, S, L) (z', h', S', L') ∧ cE c S' e) := by
  refine zM.go rfl rfl (Nat.le_of_ble_eq_true rfl) (ls := [some (.ref (c + 9))]) rfl ?_
  intro V hVl hVE hVd hVc hVs hVQ hVX
  refine sX3_read_0 _ _ _ _ _ ?_
  simp (disch := omega) only [oAld, oCV, oGR, hB.pk, hB.pr0, hB.tk, List.getElem?_cons_zero, List.getElem?_cons_succ, List.set_cons_zero, List.set_cons_succ, List.drop_succ_cons, List.drop_zero, List.take_succ_cons, List.take_zero, List.length_cons, List.length_nil, List.reverse_cons, List.reverse_nil, List.nil_append, List.cons_append, Option.toList_some, Option.toList_none, va_rf_s, true_and, and_true, true_implies, false_implies, not_true_eq_false, not_false_eq_true, Nat.reduceAdd, Nat.reduceLeDiff, Nat.le_add_left, Nat.zero_le, Nat.le_refl, znew, true_or, or_true, b01_t, b01_f, b01_ok, bool_ft, vp_b01, vp_b0, vp_b1, b01_eq0, b01_eq1, implies_true, nI_add, nI_clamp, zi_in, zi_le_t, zi_le_f, zi_lt_t, zi_lt_f, zi_eq_t, zi_eq_f, nI_leI, nI_ltI, nI_eq, z_in, pk_mul, zu_same, zu_rw, zu_ix, zi_ne0, zi_sub, zi_m1, Nat.add_sub_cancel, Nat.reduceMul, Nat.reduceSub]
  refine zC.ofN (zX2_read hB hP hBy (by rw [hVE]; exact hc) (by rw [hVE]; exact hs) (by rw [hVE]; exact hK)) (by omega) (by omega) (by omega) ?_
  rintro _ _ ⟨rfl, S1, rfl, f1, k1⟩
  have hP1 := f1.cP hP
  refine sX3_read_7 _ _ _ _ _ ?_
  simp (disch := omega) only [oAld, oCI, oDup, oNew, hVc, hVs, List.getElem?_cons_zero, List.getElem?_cons_succ, List.set_cons_zero, List.set_cons_succ, List.drop_succ_cons, List.drop_zero, List.take_succ_cons, List.take_zero, List.length_cons, List.length_nil, List.reverse_cons, List.reverse_nil, List.nil_append, List.cons_append, Option.toList_some, Option.toList_none, va_rf_s, true_and, and_true, true_implies, false_implies, not_true_eq_false, not_false_eq_true, Nat.reduceAdd, Nat.reduceLeDiff, Nat.le_add_left, Nat.zero_le, Nat.le_refl, true_or, or_true, b01_t, b01_f, b01_ok, bool_ft, vp_b01, vp_b0, vp_b1, b01_eq0, b01_eq1, implies_true, zneq, hN_ts, hN_to, hN_ns, hN_no, hN_rs, hN_ro, SN_s, SN_o, zur_t, zur_n, zur_rs, zur_rk, zur_ro, nI_add, nI_clamp, zi_in, zi_le_t, zi_le_f, zi_lt_t, zi_lt_f, zi_eq_t, zi_eq_f, nI_leI, nI_ltI, nI_eq, z_in, pk_mul, zu_same, zu_rw, zu_ix, zi_ne0, zi_sub, zi_m1, Nat.add_sub_cancel, Nat.reduceMul, Nat.reduceSub]
  refine zC.ofN (zX4_init (ta := z) (z := z + 1) (eA := fun _ => 0) (B := fun _ _ => 0) (by rw [hVE]; exact hd) rfl hN_ts SN_s) (by omega) (by omega) (by omega) ?_
  rintro _ _ ⟨rfl, h2, S2, L2, rfl, o2, t2⟩
  have old2 : ∀ a, a < z → h2 a = h a ∧ S2 a = S1 a ∧ L2 a = L a := fun a ha => by
    obtain ⟨w1, w2, w3⟩ := o2 a ha
    exact ⟨w1.trans (hN_o (by omega)), w2.trans (SN_o (by omega)), w3.trans (LN_o (by omega))⟩
  have t9 : zt h2 (c + 9) = 23 := by unfold zt; rw [(old2 (c + 9) (by omega)).1]; exact hB.pk
  refine sX3_read_15 _ _ _ _ _ ?_
  simp (disch := omega) only [oAld, oPI, oPR, oPush, hB.pk, t9, zur_t, List.getElem?_cons_zero, List.getElem?_cons_succ, List.set_cons_zero, List.set_cons_succ, List.drop_succ_cons, List.drop_zero, List.take_succ_cons, List.take_zero, List.length_cons, List.length_nil, List.reverse_cons, List.reverse_nil, List.nil_append, List.cons_append, Option.toList_some, Option.toList_none, va_rf_s, true_and, and_true, true_implies, false_implies, not_true_eq_false, not_false_eq_true, Nat.reduceAdd, Nat.reduceLeDiff, Nat.le_add_left, Nat.zero_le, Nat.le_refl, znew, true_or, or_true, b01_t, b01_f, b01_ok, bool_ft, vp_b01, vp_b0, vp_b1, b01_eq0, b01_eq1, implies_true, nI_add, nI_clamp, zi_in, zi_le_t, zi_le_f, zi_lt_t, zi_lt_f, zi_eq_t, zi_eq_f, nI_leI, nI_ltI, nI_eq, z_in, pk_mul, zu_same, zu_rw, zu_ix, zi_ne0, zi_sub, zi_m1, Nat.add_sub_cancel, Nat.reduceMul, Nat.reduceSub]
  -- the state behind the beginning
  have hh3 : ∀ a, a < z → a ≠ c + 9 → zur h2 (c + 9) 2 (some z) a = h a := fun a ha hne => by rw [zur_ne hne]; exact (old2 a ha).1
  have hB3 : isC (zur h2 (c + 9) 2 (some z)) c := hB.fr (fun a a1 a2 a3 a4 => hh3 a (by omega) a4) ⟨by rw [zur_t]; unfold zt; rw [(old2 c (by omega)).1], fun k _ => by rw [zur_ro (by omega)]; unfold zr; rw [(old2 c (by omega)).1]⟩ ⟨by rw [zur_t]; unfold zt; rw [(old2 (c + 9) (by omega)).1], fun k hk => by rw [zur_rk hk]; unfold zr; rw [(old2 (c + 9) (by omega)).1]⟩
  have hS3 : ∀ a, a ≠ c + 9 → zu (zu (zu S2 (c + 9) 3 (nI 0)) (c + 9) 4 (nI 0)) (c + 9) 5 (nI 0) a = S2 a := fun a ha => by rw [zu_rw _ _ ha, zu_rw _ _ ha, zu_rw _ _ ha]
  have i3 : zu (zu (zu S2 (c + 9) 3 (nI 0)) (c + 9) 4 (nI 0)) (c + 9) 5 (nI 0) (c + 9) 3 = nI 0 := by rw [zu_ix _ _ (by omega), zu_ix _ _ (by omega), zu_same]
  have i4 : zu (zu (zu S2 (c + 9) 3 (nI 0)) (c + 9) 4 (nI 0)) (c + 9) 5 (nI 0) (c + 9) 4 = nI 0 := by rw [zu_ix _ _ (by omega), zu_same]
  have i5 : zu (zu (zu S2 (c + 9) 3 (nI 0)) (c + 9) 4 (nI 0)) (c + 9) 5 (nI 0) (c + 9) 5 = nI 0 := zu_same _ _ _ _
  have t3 : txP (z + 6) (zur h2 (c + 9) 2 (some z)) (zu (zu (zu S2 (c + 9) 3 (nI 0)) (c + 9) 4 (nI 0)) (c + 9) 5 (nI 0)) z dE (fun _ => 0) (fun _ _ => 0) x0 := by
    refine t2.hs (fun y hy => zur_ne (by omega)) (fun y hy => hS3 y (by omega))
  have r9 : zr (zur h2 (c + 9) 2 (some z)) (c + 9) 2 = some z := zur_rs
  have z9 : zt (zur h2 (c + 9) 2 (some z)) (c + 9) = zt h (c + 9) ∧ ∀ k, k ≠ 2 → zr (zur h2 (c + 9) 2 (some z)) (c + 9) k = zr h (c + 9) k := ⟨by rw [zur_t]; unfold zt; rw [(old2 (c + 9) (by omega)).1], fun k hk => by rw [zur_rk hk]; unfold zr; rw [(old2 (c + 9) (by omega)).1]⟩
  generalize zur h2 (c + 9) 2 (some z) = h3 at hh3 hB3 t3 r9 z9
  generalize zu (zu (zu S2 (c + 9) 3 (nI 0)) (c + 9) 4 (nI 0)) (c + 9) 5 (nI 0) = S3 at hS3 i3 i4 i5 t3
  have hS3' : ∀ a, a < z → a ≠ c + 9 → S3 a = S1 a := fun a ha hne => (hS3 a hne).trans (old2 a ha).2.1
  have hP3 : cP S3 c P := ⟨by rw [hS3' _ (by omega) (by omega)]; exact hP1.1, hP1.2.1, fun i hi => by rw [hS3' _ (by omega) (by omega)]; exact hP1.2.2 i hi⟩
  have k3 : cTk c S3 P := by
    obtain ⟨K, R, a1, a2, a3, a4, a5, a6⟩ := k1
    refine ⟨K, R, a1, a2, a3, ⟨by rw [hS3' _ (by omega) (by omega)]; exact a4.1, fun j hj => ?_⟩, a5, a6⟩
    rw [hS3' _ (by omega) (by omega), hS3' _ (by omega) (by omega), hS3' _ (by omega) (by omega), hS3' _ (by omega) (by omega)]; exact a4.2 j hj
  obtain ⟨N, hX3⟩ := pX.mk (z := z + 6) hB3 (by omega) hP3 hBy k3
  have base : rdF c z (z, h, S, L) (z + 6, h3, S3, L2) := by
    refine ⟨by show z ≤ z + 6; omega, fun a ha => ⟨fun hne => hh3 a ha hne, fun a1 a2 a3 => ?_, (old2 a ha).2.2⟩, fun j hj => ?_, z9⟩
    · show S3 a = S a
      rw [hS3' a ha (by omega)]; exact f1.1 a a2 (by omega) (by omega) (by omega) (by omega)
    · show S3 (c + 2) j = S (c + 2) j
      rw [hS3' _ (by omega) (by omega)]; exact f1.2 j hj
  have rdG' : ∀ z' h' S' L', pG c (z, h3, S3, L2) (z', h', S', L') → rdF c z (z, h, S, L) (z', h', S', L') := by
    intro z' h' S' L' g
    obtain ⟨-, b2, b3, b4, b5⟩ := base
    have h9 : h' (c + 9) = h3 (c + 9) := (g.2 (c + 9) (show c + 9 < z by omega)).1
    refine ⟨g.1, fun a ha => ?_, fun j hj => ?_, ?_, fun k hk => ?_⟩
    · obtain ⟨g1, g2, g3⟩ := g.2 a ha
      obtain ⟨w1, w2, w3⟩ := b2 a ha
      exact ⟨fun hne => g1.trans (w1 hne), fun a1 a2 a3 => (g2 (by omega) a1).trans (w2 a1 a2 a3), g3.trans w3⟩
    · have : S' (c + 2) = S3 (c + 2) := (g.2 (c + 2) (show c + 2 < z by omega)).2.1 (by omega) (by omega)
      show S' (c + 2) j = _; rw [this]; exact b3 j hj
    · show zt h' (c + 9) = _
      have : zt h' (c + 9) = zt h3 (c + 9) := by unfold zt; rw [h9]
      rw [this]; exact b4
    · show zr h' (c + 9) k = _
      have : zr h' (c + 9) = zr h3 (c + 9) := by unfold zr; rw [h9]
      rw [this]; exact b5 k hk
  -- things told, one behind another
  have loop : ∀ f x q z1 h1 S1 L1 eA B k n, 400 < f + q.1 → pTxt P = pB (pRd (tkA P) f (x, q)) (pEnd (tkA P)) → pG c (z, h3, S3, L2) (z1, h1, S1, L1) → pI c S1 N q 0 → tdX E c z1 h1 S1 P (tkA P) N z dE eA B x → k ≤ 6 + 6 * q.1 → n ≤ 24 + 40 * q.1 → zW V YX3_read 33 [some (.ref (c + 9))] [] (z1, h1, S1, L1) k n := by
    intro f
    induction f with
    | zero =>
      intro x q z1 h1 S1 L1 eA B k n hf hT hG hI
      have := hI.2.2.2.2.1.1
      omega
    | succ f ih =>
      intro x q z1 h1 S1 L1 eA B k n hf hT hG hI hx hk hn
      obtain ⟨⟨c1, c2, c3⟩, hX1, hta, hct, hp, hb⟩ := id hx
      have hB := hX1.1
      have hNl := hX1.n
      obtain ⟨i3, i4, i5, i6, ⟨i7, i7'⟩, i8, i9, i10⟩ := id hI
      have hsb := soK_b (tkK (tkA P) q.1)
      have hstep : pRd (tkA P) (f + 1) (x, q) = if tkK (tkA P) q.1 = 0 then .ok (x, q) else pB (pStm (tkA P) (x, q)) (pRd (tkA P) f) := rfl
      rw [hstep] at hT
      have flt : ∀ (ls : List (Option Value)) (e : zFt) z' h' S' L', pTxt P = .error e → ∀ k n, k ≤ 2412 → n ≤ 16064 → pG c (z, h3, S3, L2) (z', h', S', L') → cE c S' e → zOut V ls (c + 1) (z', h', S', L') k n := by
        intro ls e z' h' S' L' h1 k n hk hn f1 f2
        exact ⟨hVX _ _ ⟨e, z', h', S', L', h1, rfl, rfl, rdG' _ _ _ _ f1, f2⟩, by omega, by omega⟩
      refine sX3_read_33 _ _ _ _ _ ?_
      simp (disch := omega) only [oAld, oCV, hB.pk, List.getElem?_cons_zero, List.getElem?_cons_succ, List.set_cons_zero, List.set_cons_succ, List.drop_succ_cons, List.drop_zero, List.take_succ_cons, List.take_zero, List.length_cons, List.length_nil, List.reverse_cons, List.reverse_nil, List.nil_append, List.cons_append, Option.toList_some, Option.toList_none, va_rf_s, true_and, and_true, true_implies, false_implies, not_true_eq_false, not_false_eq_true, Nat.reduceAdd, Nat.reduceLeDiff, Nat.le_add_left, Nat.zero_le, Nat.le_refl, znew, true_or, or_true, b01_t, b01_f, b01_ok, bool_ft, vp_b01, vp_b0, vp_b1, b01_eq0, b01_eq1, implies_true, nI_add, nI_clamp, zi_in, zi_le_t, zi_le_f, zi_lt_t, zi_lt_f, zi_eq_t, zi_eq_f, nI_leI, nI_ltI, nI_eq, z_in, pk_mul, zu_same, zu_rw, zu_ix, zi_ne0, zi_sub, zi_m1, Nat.add_sub_cancel, Nat.reduceMul, Nat.reduceSub]
      refine zC.of (zX3_sort hX1 hI) (by omega) (by omega) (by omega) ?_ ?_
      · rintro _ _ ⟨hn3, rfl, rfl⟩
        by_cases h0 : tkK (tkA P) q.1 = 0
        · rw [if_pos h0] at hT
          have hT : pTxt P = if q.2.1 = 0 then .ok x else .error (q.2.1, tkP (tkA P) q.2.2) := hT
          have es : (nI (soK (tkK (tkA P) q.1)) = nI 4) = True := eq_true (by rw [soK_inj.2.2.mpr h0])
          by_cases hw : q.2.1 = 0
          · rw [if_pos hw] at hT
            rw [hw] at i5
            refine sX3_read_37 _ _ _ _ _ ?_
            simp (disch := omega) only [oAld, oCV, oGI, oGR, oIf, oIfc, oPush, oRA, hB.pk, es, i5, hta, List.getElem?_cons_zero, List.getElem?_cons_succ, List.set_cons_zero, List.set_cons_succ, List.drop_succ_cons, List.drop_zero, List.take_succ_cons, List.take_zero, List.length_cons, List.length_nil, List.reverse_cons, List.reverse_nil, List.nil_append, List.cons_append, Option.toList_some, Option.toList_none, va_rf_s, true_and, and_true, true_implies, false_implies, not_true_eq_false, not_false_eq_true, Nat.reduceAdd, Nat.reduceLeDiff, Nat.le_add_left, Nat.zero_le, Nat.le_refl, znew, true_or, or_true, b01_t, b01_f, b01_ok, bool_ft, vp_b01, vp_b0, vp_b1, b01_eq0, b01_eq1, implies_true, nI_add, nI_clamp, zi_in, zi_le_t, zi_le_f, zi_lt_t, zi_lt_f, zi_eq_t, zi_eq_f, nI_leI, nI_ltI, nI_eq, z_in, pk_mul, zu_same, zu_rw, zu_ix, zi_ne0, zi_sub, zi_m1, Nat.add_sub_cancel, Nat.reduceMul, Nat.reduceSub]
            exact ⟨hVQ _ _ ⟨rfl, x, z1, h1, S1, L1, eA, B, hT, rfl, rdG' _ _ _ _ hG, hp, hb⟩, by omega, by omega⟩
          · rw [if_neg hw] at hT
            have i6' := i6 hw
            have i5' : (nI q.2.1 = nI 0) = False := eq_false (fun e => hw (by rw [nI_eq (by omega) (by omega)] at e; exact e))
            have hwt : q.2.2 < N := i9.1
            refine sX3_read_37 _ _ _ _ _ ?_
            simp (disch := omega) only [oAld, oCV, oGI, oGR, oIf, oIfc, oPush, oRA, hB.pk, es, i5, i5', i6', List.getElem?_cons_zero, List.getElem?_cons_succ, List.set_cons_zero, List.set_cons_succ, List.drop_succ_cons, List.drop_zero, List.take_succ_cons, List.take_zero, List.length_cons, List.length_nil, List.reverse_cons, List.reverse_nil, List.nil_append, List.cons_append, Option.toList_some, Option.toList_none, va_rf_s, true_and, and_true, true_implies, false_implies, not_true_eq_false, not_false_eq_true, Nat.reduceAdd, Nat.reduceLeDiff, Nat.le_add_left, Nat.zero_le, Nat.le_refl, znew, true_or, or_true, b01_t, b01_f, b01_ok, bool_ft, vp_b01, vp_b0, vp_b1, b01_eq0, b01_eq1, implies_true, nI_add, nI_clamp, zi_in, zi_le_t, zi_le_f, zi_lt_t, zi_lt_f, zi_eq_t, zi_eq_f, nI_leI, nI_ltI, nI_eq, z_in, pk_mul, zu_same, zu_rw, zu_ix, zi_ne0, zi_sub, zi_m1, Nat.add_sub_cancel, Nat.reduceMul, Nat.reduceSub]
            refine zC.ofN (zX3_wrongAt hX1 hwt (n := q.2.1) (by omega)) (by omega) (by omega) (by omega) ?_
            rintro _ _ ⟨rfl, S', rfl, g1, -, g2⟩
            refine sX3_read_73 _ _ _ _ _ ?_
            simp (disch := omega) only [oThrow, hB.fk, List.getElem?_cons_zero, List.getElem?_cons_succ, List.set_cons_zero, List.set_cons_succ, List.drop_succ_cons, List.drop_zero, List.take_succ_cons, List.take_zero, List.length_cons, List.length_nil, List.reverse_cons, List.reverse_nil, List.nil_append, List.cons_append, Option.toList_some, Option.toList_none, va_rf_s, true_and, and_true, true_implies, false_implies, not_true_eq_false, not_false_eq_true, Nat.reduceAdd, Nat.reduceLeDiff, Nat.le_add_left, Nat.zero_le, Nat.le_refl, znew, true_or, or_true, b01_t, b01_f, b01_ok, bool_ft, vp_b01, vp_b0, vp_b1, b01_eq0, b01_eq1, implies_true, nI_add, nI_clamp, zi_in, zi_le_t, zi_le_f, zi_lt_t, zi_lt_f, zi_eq_t, zi_eq_f, nI_leI, nI_ltI, nI_eq, z_in, pk_mul, zu_same, zu_rw, zu_ix, zi_ne0, zi_sub, zi_m1, Nat.add_sub_cancel, Nat.reduceMul, Nat.reduceSub]
            exact flt _ _ _ _ _ _ hT _ _ (by omega) (by omega) (hG.tr (pG.s g1)) g2
        · rw [if_neg h0, pStm_q, pB_a] at hT
          have es : (nI (soK (tkK (tkA P) q.1)) = nI 4) = False := eq_false (fun e => h0 (soK_inj.2.2.mp (by rw [nI_eq (by omega) (by omega)] at e; exact e)))
          have hle := stm_le (A := tkA P) (x := x) i7
          refine sX3_read_37 _ _ _ _ _ ?_
          simp (disch := omega) only [oAld, oCV, oGI, oGR, oIf, oIfc, oPush, oRA, hB.pk, es, List.getElem?_cons_zero, List.getElem?_cons_succ, List.set_cons_zero, List.set_cons_succ, List.drop_succ_cons, List.drop_zero, List.take_succ_cons, List.take_zero, List.length_cons, List.length_nil, List.reverse_cons, List.reverse_nil, List.nil_append, List.cons_append, Option.toList_some, Option.toList_none, va_rf_s, true_and, and_true, true_implies, false_implies, not_true_eq_false, not_false_eq_true, Nat.reduceAdd, Nat.reduceLeDiff, Nat.le_add_left, Nat.zero_le, Nat.le_refl, znew, true_or, or_true, b01_t, b01_f, b01_ok, bool_ft, vp_b01, vp_b0, vp_b1, b01_eq0, b01_eq1, implies_true, nI_add, nI_clamp, zi_in, zi_le_t, zi_le_f, zi_lt_t, zi_lt_f, zi_eq_t, zi_eq_f, nI_leI, nI_ltI, nI_eq, z_in, pk_mul, zu_same, zu_rw, zu_ix, zi_ne0, zi_sub, zi_m1, Nat.add_sub_cancel, Nat.reduceMul, Nat.reduceSub]
          have hM := zX3_told (l := V.1) (L := L1) hx hI
          rw [← hVE] at hM
          refine zC.of hM (by omega) (by omega) (by omega) ?_ ?_
          · rintro _ _ ⟨rfl, x', q1, z2, h2, S2, L2', eA', B', e2, rfl, g2, p2, t2, b2⟩
            have hXa : pX c z h1 S1 P (tkA P) N := ⟨hX1.1, hct, hX1.2.2⟩
            have hX2 : pX c z2 h2 S2 P (tkA P) N := pX.g (X := (z, h1, S1, L1)) (X' := (z2, h2, S2, L2')) hXa g2
            rw [e2] at hT
            have em : mx (qStm (tkA P) (x, q)) = q1.1 := by rw [e2]; rfl
            have hq14 : q1.1 ≤ 400 := p2.2.2.2.2.1.1
            have hta2 : zr h2 (c + 9) 2 = some z := by
              have : h2 (c + 9) = h1 (c + 9) := (g2.2 (c + 9) (show c + 9 < z by omega)).1
              have : zr h2 (c + 9) = zr h1 (c + 9) := by unfold zr; rw [this]
              rw [this]; exact hta
            refine sX3_read_45 _ _ _ _ _ ?_
            simp (disch := omega) only [oAld, oCV, oPush, hB.pk, hX2.1.pk, List.getElem?_cons_zero, List.getElem?_cons_succ, List.set_cons_zero, List.set_cons_succ, List.drop_succ_cons, List.drop_zero, List.take_succ_cons, List.take_zero, List.length_cons, List.length_nil, List.reverse_cons, List.reverse_nil, List.nil_append, List.cons_append, Option.toList_some, Option.toList_none, va_rf_s, true_and, and_true, true_implies, false_implies, not_true_eq_false, not_false_eq_true, Nat.reduceAdd, Nat.reduceLeDiff, Nat.le_add_left, Nat.zero_le, Nat.le_refl, znew, true_or, or_true, b01_t, b01_f, b01_ok, bool_ft, vp_b01, vp_b0, vp_b1, b01_eq0, b01_eq1, implies_true, nI_add, nI_clamp, zi_in, zi_le_t, zi_le_f, zi_lt_t, zi_lt_f, zi_eq_t, zi_eq_f, nI_leI, nI_ltI, nI_eq, z_in, pk_mul, zu_same, zu_rw, zu_ix, zi_ne0, zi_sub, zi_m1, Nat.add_sub_cancel, Nat.reduceMul, Nat.reduceSub]
            have hs4 := zX3_sign (l := V.1) (E := V.2.1) (L := L2') (k := 4) hX2 p2 ⟨by omega, by omega, by omega, by omega, by omega⟩
            rw [show sgI 4 = 59 from rfl] at hs4
            refine zC.of hs4 (by omega) (by omega) (by omega) ?_ ?_
            · rintro _ _ ⟨rfl, q2, S4, e4, rfl, f4, p4⟩
              have hst : pStm (tkA P) (x, q) = .ok (x', q2) := by
                rw [pStm_q, e2]
                show pB (pMust (tkA P) 4 q1) _ = _
                rw [e4]; rfl
              have hgr := (stm_0 hst i7).1
              have hq2 : q2.1 = q1.1 + 1 := by rw [(cMust_ok e4).1]
              have hT2 : pTxt P = pB (pRd (tkA P) f (x', q2)) (pEnd (tkA P)) := by
                rw [hT]
                show pB (pB (pMust (tkA P) 4 q1) (fun q => .ok (x', q))) _ = _
                rw [e4]; rfl
              refine sX3_read_51 _ _ _ _ _ ?_
              simp (disch := omega) only [oNop, List.getElem?_cons_zero, List.getElem?_cons_succ, List.set_cons_zero, List.set_cons_succ, List.drop_succ_cons, List.drop_zero, List.take_succ_cons, List.take_zero, List.length_cons, List.length_nil, List.reverse_cons, List.reverse_nil, List.nil_append, List.cons_append, Option.toList_some, Option.toList_none, va_rf_s, true_and, and_true, true_implies, false_implies, not_true_eq_false, not_false_eq_true, Nat.reduceAdd, Nat.reduceLeDiff, Nat.le_add_left, Nat.zero_le, Nat.le_refl, znew, true_or, or_true, b01_t, b01_f, b01_ok, bool_ft, vp_b01, vp_b0, vp_b1, b01_eq0, b01_eq1, implies_true, nI_add, nI_clamp, zi_in, zi_le_t, zi_le_f, zi_lt_t, zi_lt_f, zi_eq_t, zi_eq_f, nI_leI, nI_ltI, nI_eq, z_in, pk_mul, zu_same, zu_rw, zu_ix, zi_ne0, zi_sub, zi_m1, Nat.add_sub_cancel, Nat.reduceMul, Nat.reduceSub]
              exact ih x' q2 z2 h2 S4 L2' eA' B' _ _ (by omega) hT2 (hG.t2 (g2.tr (pG.s f4))) p4 ⟨⟨c1, c2, c3⟩, hX2.fs f4, hta2, hct, t2.g hct (pG.s (L := L2') f4), b2⟩ (by omega) (by omega)
            · rintro _ _ ⟨e, S4, e4, rfl, rfl, f4, f5⟩
              have hT2 : pTxt P = .error e := by
                rw [hT]
                show pB (pB (pMust (tkA P) 4 q1) (fun q => .ok (x', q))) _ = _
                rw [e4]; rfl
              exact flt _ _ _ _ _ _ hT2 _ _ (by omega) (by omega) (hG.t2 (g2.tr (pG.s f4))) f5
          · rintro _ _ ⟨e, z2, h2, S2, L2', e2, rfl, rfl, g2, f4⟩
            rw [e2] at hT
            exact flt _ _ _ _ _ _ hT _ _ (by omega) (by omega) (hG.t2 g2) f4
      · rintro _ _ ⟨hn3, e, S', e1, rfl, rfl, g1, g2⟩
        have hq1 : qStm (tkA P) (x, q) = pErr (tkA P) 1 q.1 := by
          show (if tkK (tkA P) q.1 = 20 then pB (pOpen (tkA P) (xC x).length 7 q) (qCor (tkA P) x) else if tkK (tkA P) q.1 = 21 then pB (pOpen (tkA P) (xS x).length 10 q) (qStr (tkA P) x) else if tkK (tkA P) q.1 = 22 then pB (pOpen (tkA P) (xY x).length 6 q) (qYou (tkA P) x) else if tkK (tkA P) q.1 = 23 then pB (pOpen (tkA P) (xW x).length 5 q) (qWor (tkA P) x) else if tkK (tkA P) q.1 = 24 then pB (pGo (tkA P) q) (qLig (tkA P) x) else if tkK (tkA P) q.1 = 29 then pB (pGo (tkA P) q) (qDra (tkA P) x) else if tkK (tkA P) q.1 = 30 then pB (pGo (tkA P) q) (qSee (tkA P) x) else if 25 ≤ tkK (tkA P) q.1 ∧ tkK (tkA P) q.1 ≤ 28 then pB (pGo (tkA P) q) (qLwS (tkA P) x (tkK (tkA P) q.1 - 25)) else pErr (tkA P) 1 q.1) = _
          rw [if_neg (by omega), if_neg (by omega), if_neg (by omega), if_neg (by omega), if_neg (by omega), if_neg (by omega), if_neg (by omega), if_neg (by omega)]
        rw [if_neg (by omega), pStm_q, hq1] at hT
        have e1' : (pErr (tkA P) 1 q.1 : zPR zPX) = .error e := by
          have : (Except.error (1, tkP (tkA P) q.1) : zPR zCu) = .error e := e1
          cases this; rfl
        rw [e1'] at hT
        exact flt _ _ _ _ _ _ hT _ _ (by omega) (by omega) (hG.tr (pG.s g1)) g2
  refine loop 401 x0 (0, 0, 0) (z + 6) h3 S3 L2 _ _ _ _ (by omega) rfl ⟨by show z ≤ z + 6; omega, fun _ _ => ⟨rfl, fun _ _ => rfl, rfl⟩⟩ ?_ ⟨⟨hc, he, hd⟩, hX3, r9, by omega, t3, by unfold xB; decide⟩ (by show 6 ≤ 6 + 6 * 0; omega) (by show 24 ≤ 24 + 40 * 0; omega)
  exact ⟨i3, i4, i5, fun h0 => absurd rfl h0, ⟨by show 0 ≤ 400; omega, hX3.2.2.2.2.1.2.2⟩, by show 0 ≤ 5; omega, ⟨hX3.2.2.2.2.1.2.2, hX3.n⟩, by omega⟩
end FM
