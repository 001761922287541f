/-! the component's parser: a law is read -/
section FE
variable {l : Launch} {E : zE} {z : Nat} {h : Nat → Option zSh} {S : Nat → Nat → Int32} {L : Nat → Nat → Int64} {c : Nat} {P : List Int32} {A : List zTk} {N : Nat} {q : zCu} {o : Nat}
theorem pG.up {c : Nat} {X : zX} {z2 : Nat} {h2 h3 : Nat → Option zSh} {S2 S3 : Nat → Nat → Int32} {L2 : Nat → Nat → Int64} (g : pG c X (z2, h2, S2, L2)) (hh : ∀ b, b < X.1 → h3 b = h2 b) (hS : ∀ b, b < X.1 → S3 b = S2 b) : pG c X (z2, h3, S3, L2) := ⟨g.1, fun b hb => by
  obtain ⟨o1, o2, o3⟩ := g.2 b hb
  exact ⟨(hh b hb).trans o1, fun x y => (hS b hb).trans (o2 x y), o3⟩⟩
/-- a law that is whole -/
theorem lwS.whole {h : Nat → Option zSh} {S : Nat → Nat → Int32} {z z1 x : Nat} {acc : List zBr3} {cd : zCd} (hs : lwS h S z z1 acc none none) (hx : zr h (z + 3) acc.length = some x) (hc : isSum h S (lwD z z1) 400 x cd) : isLw h S (fun b => z ≤ b ∧ b < z1) 400 z (acc ++ [(false, [], [], cd)]) := by
  obtain ⟨⟨a1, a2, a3, a4⟩, ⟨⟨b1, b2⟩, ⟨b3, b4⟩, b5, b6⟩, b7, ⟨b8, b9, b10⟩, b11, b12, b13⟩ := hs
  have up : ∀ {x' d cd}, isSum h S (lwD z z1) d x' cd → isSum h S (fun b => z ≤ b ∧ b < z1) d x' cd := fun hs => hs.fr (fun _ _ => rfl) (fun _ _ => rfl) (fun b hb => ⟨by unfold lwD at hb; omega, hb.2⟩)
  refine ⟨⟨Nat.le_refl _, by omega⟩, a1, acc, cd, z + 1, z + 2, z + 3, rfl, b9, b10, b8, ⟨a2, a3, a4⟩, ⟨⟨⟨by omega, by omega⟩, b1, b2⟩, ⟨⟨by omega, by omega⟩, b3, b4⟩, ⟨by omega, by omega⟩, b5, b6⟩, fun i hi => ?_, x, hx, up hc⟩
  obtain ⟨⟨x1, y1, w1⟩, ⟨x2, y2, w2⟩, x3, y3, w3⟩ := b11 i hi
  exact ⟨⟨x1, y1, up w1⟩, ⟨x2, y2, up w2⟩, x3, y3, up w3⟩
/-- one more branch -/
theorem lwS.more {h : Nat → Option zSh} {S : Nat → Nat → Int32} {z z1 x : Nat} {acc : List zBr3} {c1 c2 c3 : zCd} (hn : acc.length < 4) (hs : lwS h S z z1 acc (some c1) (some c2)) (hx : zr h (z + 3) acc.length = some x) (hc : isSum h S (lwD z z1) 400 x c3) : lwS h (zu S z 3 (nI (acc.length + 1))) z z1 (acc ++ [(true, c1, c2, c3)]) none none := by
  obtain ⟨⟨a1, a2, a3, a4⟩, ⟨⟨b1, b2⟩, ⟨b3, b4⟩, b5, b6⟩, b7, ⟨b8, b9, b10⟩, b11, b12, b13⟩ := hs
  have up : ∀ {x' d cd}, isSum h S (lwD z z1) d x' cd → isSum h (zu S z 3 (nI (acc.length + 1))) (lwD z z1) d x' cd := fun hs => hs.fr (fun b hb => zu_rw _ _ (by unfold lwD at hb; omega)) (fun _ _ => rfl) (fun _ hb => hb)
  refine ⟨⟨a1, a2, a3, a4⟩, ⟨⟨b1, b2⟩, ⟨b3, b4⟩, b5, b6⟩, b7, ⟨by rw [zu_same, List.length_append]; rfl, by rw [List.length_append]; show acc.length + 1 ≤ 4; omega, fun q hq => ?_⟩, fun i hi => ?_, fun _ e => absurd e (by simp), fun _ e => absurd e (by simp)⟩
  · rcases List.mem_append.mp hq with w | w
    · exact b10 q w
    · rw [List.mem_singleton.mp w]
  · rw [List.length_append, List.length_singleton] at hi
    rw [getD_snoc]
    by_cases e : i = acc.length
    · rw [if_pos e, e]
      obtain ⟨x1, y1, w1⟩ := b12 c1 rfl
      obtain ⟨x2, y2, w2⟩ := b13 c2 rfl
      exact ⟨⟨x1, y1, up w1⟩, ⟨x2, y2, up w2⟩, x, hx, up hc⟩
    · rw [if_neg e, if_pos (by omega)]
      obtain ⟨⟨x1, y1, w1⟩, ⟨x2, y2, w2⟩, x3, y3, w3⟩ := b11 i (by omega)
      exact ⟨⟨x1, y1, up w1⟩, ⟨x2, y2, up w2⟩, x3, y3, up w3⟩
def lwQ (z : Nat) (h : Nat → Option zSh) (S : Nat → Nat → Int32) (L : Nat → Nat → Int64) (c N : Nat) (res : zPR (List zBr3 × zCu)) : Option Value → zX → Prop := fun r X => ∃ law q' z' h' S' L', res = .ok (law, q') ∧ r = some (.ref z) ∧ X = (z', h', S', L') ∧ pG c (z, h, S, L) (z', h', S', L') ∧ pI c S' N q' 0 ∧ isLw h' S' (fun b => z ≤ b ∧ b < z') 400 z law
theorem zX3_law (hX : pX c z h S P A N) (hI : pI c S N q 0) : zM l E 110 YX3_law [.ref (c + 9)] (z, h, S, L) (6 * (mx (pLaw A q) - q.1)) (40 * (mx (pLaw A q) - q.1)) (lwQ z h S L c N (pLaw A q)) (exT z h S L c (pLaw A q)) := by
  have hcz := hX.2.1
  obtain ⟨i3, i4, i5, i6, ⟨i7, i7'⟩, i8, i9, i10⟩ := id hI
  have hmx1 : q.1 + 1 ≤ mx (pLaw A q) := by
    show q.1 + 1 ≤ mx (pB (pMust A 5 q) (pLwL A 4 []))
    cases hm : pMust A 5 q with
    | error e => show q.1 + 1 ≤ 401; omega
    | ok q' =>
      have := lw_mono (A := A) 4 [] q' (mu4 hm i7)
      have e := (cMust_ok hm).1
      show q.1 + 1 ≤ mx (pLwL A 4 [] q')
      have e1 : q'.1 = q.1 + 1 := by rw [e]
      omega
  refine zM.go rfl rfl (Nat.le_of_ble_eq_true rfl) (ls := [some (.ref (c + 9)), none]) rfl ?_
  intro V hVl hVE hVd hVc hVs hVQ hVX
  have flt : ∀ (ls : List (Option Value)) (e : zFt) z' h' S' L', pLaw A q = .error e → ∀ k n, k ≤ 6 * (mx (pLaw A q) - q.1) → n ≤ 40 * (mx (pLaw A q) - q.1) → pG c (z, h, S, L) (z', h', S', L') → cE c S' e → zOut V ls (c + 1) (z', h', S', L') k n := by
    intro ls e z' h' S' L' h1 k n hk hn f1 f2
    exact ⟨hVX _ _ ⟨e, z', h', S', L', h1, rfl, rfl, f1, f2⟩, by rw [hVc]; exact hk, by rw [hVs]; exact hn⟩
  have sm : ∀ z1 h1 S1 L1 q1, pX c z1 h1 S1 P A N → pI c S1 N q1 0 → zM V.1 V.2.1 98 YX3_sum [.ref (c + 9)] (z1, h1, S1, L1) (6 * (mx (rdX A 6 q1) - q1.1)) (40 * (mx (rdX A 6 q1) - q1.1)) (exQ z1 h1 S1 L1 c N 0 q1 (rdX A 6 q1)) (exT z1 h1 S1 L1 c (rdX A 6 q1)) := fun z1 h1 S1 L1 q1 a b => zX3_sums 6 0 rfl z1 h1 S1 L1 q1 a b
  -- the last sum
  have last : ∀ acc z1 h1 S1 L1 q1 k n, pLaw A q = pLst A acc q1 → pG c (z, h, S, L) (z1, h1, S1, L1) → pI c S1 N q1 0 → lwS h1 S1 z z1 acc none none → q.1 + 1 ≤ q1.1 → k ≤ 6 * (q1.1 - q.1) → n ≤ 40 * (q1.1 - q.1) → zC V YX3_sum [.ref (c + 9)] (z1, h1, S1, L1) k n (fun v X' k' n' => zW V YX3_law 114 [some (.ref (c + 9)), some (.ref z)] (v.toList ++ [.int (nI acc.length), .ref (z + 3)]) X' k' n') (zOut V [some (.ref (c + 9)), some (.ref z)]) := by
    intro acc z1 h1 S1 L1 q1 k n hT hG hI1 hs hqq hk hn
    have hX1 : pX c z1 h1 S1 P A N := hX.g (X := (z, h, S, L)) hG
    have hq1 := hI1.2.2.2.2.1.1
    have hT : pLaw A q = pB (rdX A 6 q1) (fun r => .ok (acc ++ [(false, [], [], r.1)], r.2)) := hT
    have m1 := mx_rd (rdX_ok A 6) hq1
    have m2 : mx (rdX A 6 q1) ≤ mx (pLaw A q) := by rw [hT]; exact mx_pB (fun r _ => Nat.le_refl _)
    refine zC.of (sm z1 h1 S1 L1 q1 hX1 hI1) (by omega) (by omega) (by omega) ?_ ?_
    · rintro _ _ ⟨cd, q2, x, z2, h2, S2, L2, e2, rfl, rfl, g2, p2, t2⟩
      have hr := rdX_ok A 6 q1 cd q2 e2 hq1
      rw [e2] at hT m2 ⊢
      have em : mx (Except.ok (cd, q2) : zPR (zCd × zCu)) = q2.1 := rfl
      rw [em] at m2 ⊢
      have hT : pLaw A q = .ok (acc ++ [(false, [], [], cd)], q2) := hT
      have hm : mx (pLaw A q) = q2.1 := by rw [hT]; rfl
      rw [hm] at hVc hVs
      have hz12 : z1 ≤ z2 := g2.1
      have hs2 := hs.g hcz g2
      have t2' : isSum h2 S2 (lwD z z2) 400 x cd := (t2.fr (ok' := lwD z z2) (fun _ _ => rfl) (fun _ _ => rfl) (fun b hb => ⟨by have := hs.2.2.1; omega, hb.2⟩)).le (by omega)
      obtain ⟨hs3, y1, y2⟩ := hs2.put (k := 3) (by omega) t2'
      obtain ⟨kk, hkk, hcl⟩ := t2'.cls
      obtain ⟨⟨a1, a2, a3, a4⟩, ⟨⟨b1, b2⟩, ⟨b3, b4⟩, b5, b6⟩, b7, ⟨b8, b9, b10⟩, b11, b12, b13⟩ := hs2
      refine sX3_law_114 _ _ _ _ _ ?_
      simp (disch := omega) only [oAld, oAst9s, oRA, b5, b6, hVc, hVs, List.getElem?_cons_zero, List.getElem?_cons_succ, List.set_cons_zero, List.set_cons_succ, List.drop_succ_cons, List.drop_zero, List.take_succ_cons, List.take_zero, List.length_cons, List.length_nil, List.reverse_cons, List.reverse_nil, List.nil_append, List.cons_append, Option.toList_some, Option.toList_none, va_rf_s, true_and, and_true, true_implies, false_implies, not_true_eq_false, not_false_eq_true, Nat.reduceAdd, Nat.reduceLeDiff, Nat.le_add_left, Nat.zero_le, Nat.le_refl, znew, true_or, or_true, b01_t, b01_f, b01_ok, bool_ft, vp_b01, vp_b0, vp_b1, b01_eq0, b01_eq1, implies_true, nI_add, nI_clamp, zi_in, zi_le_t, zi_le_f, zi_lt_t, zi_lt_f, zi_eq_t, zi_eq_f, nI_leI, nI_ltI, nI_eq, z_in, pk_mul, zu_same, zu_rw, zu_ix, zi_ne0, zi_sub, zi_m1, Nat.add_sub_cancel, Nat.reduceMul, Nat.reduceSub]
      refine ⟨kk, hkk, hcl, hVQ _ _ ⟨_, q2, z2, _, S2, L2, hT, rfl, rfl, ?_, p2, ?_⟩, by omega, by omega⟩
      · exact (hG.tr g2).up (fun b hb => zur_ne (by have hb' : b < z := hb; omega)) (fun _ _ => rfl)
      · exact lwS.whole hs3 y1 y2
    · rintro _ _ ⟨e, z2, h2, S2, L2, e2, rfl, rfl, g2, f4⟩
      have hR : pLaw A q = .error e := by rw [hT, e2]; rfl
      have hm3 : mx (pLaw A q) = 401 := by rw [hR]; rfl
      have em : mx (rdX A 6 q1) = 401 := by rw [e2]; rfl
      exact flt _ e _ _ _ _ hR _ _ (by omega) (by omega) (hG.tr g2) f4
  have loop : ∀ f acc z1 h1 S1 L1 q1 k n, acc.length + f = 4 → pLaw A q = pLwL A f acc q1 → pG c (z, h, S, L) (z1, h1, S1, L1) → pI c S1 N q1 0 → lwS h1 S1 z z1 acc none none → q.1 + 1 ≤ q1.1 → k ≤ 6 * (q1.1 - q.1) → n ≤ 40 * (q1.1 - q.1) → zW V YX3_law 14 [some (.ref (c + 9)), some (.ref z)] [] (z1, h1, S1, L1) k n := by
    intro f
    induction f with
    | zero =>
      intro acc z1 h1 S1 L1 q1 k n hf hT hG hI1 hs hqq hk hn
      have hX1 : pX c z1 h1 S1 P A N := hX.g (X := (z, h, S, L)) hG
      have hB := hX1.1
      obtain ⟨⟨a1, a2, a3, a4⟩, -, b7, ⟨b8, -, -⟩, -⟩ := id hs
      have hT : pLaw A q = if tkK A q1.1 = 31 then pErr A 2 q1.1 else pLst A acc q1 := hT
      have hge : q1.1 ≤ mx (pLaw A q) := by
        rw [hT]
        split
        · show q1.1 ≤ 401; have := hI1.2.2.2.2.1.1; omega
        · exact lst_mono hI1.2.2.2.2.1.1
      refine sX3_law_14 _ _ _ _ _ ?_
      simp (disch := omega) only [oAld, oCV, oPush, hB.pk, List.getElem?_cons_zero, List.getElem?_cons_succ, List.set_cons_zero, List.set_cons_succ, List.drop_succ_cons, List.drop_zero, List.take_succ_cons, List.take_zero, List.length_cons, List.length_nil, List.reverse_cons, List.reverse_nil, List.nil_append, List.cons_append, Option.toList_some, Option.toList_none, va_rf_s, true_and, and_true, true_implies, false_implies, not_true_eq_false, not_false_eq_true, Nat.reduceAdd, Nat.reduceLeDiff, Nat.le_add_left, Nat.zero_le, Nat.le_refl, znew, true_or, or_true, b01_t, b01_f, b01_ok, bool_ft, vp_b01, vp_b0, vp_b1, b01_eq0, b01_eq1, implies_true, nI_add, nI_clamp, zi_in, zi_le_t, zi_le_f, zi_lt_t, zi_lt_f, zi_eq_t, zi_eq_f, nI_leI, nI_ltI, nI_eq, z_in, pk_mul, zu_same, zu_rw, zu_ix, zi_ne0, zi_sub, zi_m1, Nat.add_sub_cancel, Nat.reduceMul, Nat.reduceSub]
      refine zC.ofN (zX3_isWord (w := 11) hX1 hI1 (by omega)) (by omega) (by omega) (by omega) ?_
      rintro _ _ ⟨rfl, rfl⟩
      by_cases hk31 : tkK A q1.1 = 31
      · rw [if_pos hk31] at hT
        rw [decide_eq_true (show tkK A q1.1 = 20 + 11 from hk31)]
        refine sX3_law_20 _ _ _ _ _ ?_
        simp (disch := omega) only [oAld, oCV, oGI, oGR, oIf, oPush, hB.pk, a1, b8, List.getElem?_cons_zero, List.getElem?_cons_succ, List.set_cons_zero, List.set_cons_succ, List.drop_succ_cons, List.drop_zero, List.take_succ_cons, List.take_zero, List.length_cons, List.length_nil, List.reverse_cons, List.reverse_nil, List.nil_append, List.cons_append, Option.toList_some, Option.toList_none, va_rf_s, true_and, and_true, true_implies, false_implies, not_true_eq_false, not_false_eq_true, Nat.reduceAdd, Nat.reduceLeDiff, Nat.le_add_left, Nat.zero_le, Nat.le_refl, znew, true_or, or_true, b01_t, b01_f, b01_ok, bool_ft, vp_b01, vp_b0, vp_b1, b01_eq0, b01_eq1, implies_true, nI_add, nI_clamp, zi_in, zi_le_t, zi_le_f, zi_lt_t, zi_lt_f, zi_eq_t, zi_eq_f, nI_leI, nI_ltI, nI_eq, z_in, pk_mul, zu_same, zu_rw, zu_ix, zi_ne0, zi_sub, zi_m1, Nat.add_sub_cancel, Nat.reduceMul, Nat.reduceSub]
        have hnx := hX1.nx hI1.2.2.2.2.1.2 (by omega) (by omega)
        refine zC.of (zX3_begins (n := acc.length) (m := 4) hX1 hI1 hnx (by omega) (by omega)) (by omega) (by omega) (by omega) ?_ ?_
        · rintro _ _ ⟨rfl, q2, S2, e2, -⟩
          have : acc.length = 4 := by omega
          unfold pOpen at e2
          rw [if_pos this] at e2
          cases e2
        · rintro _ _ ⟨e, S2, e2, rfl, rfl, f2, f4⟩
          have : acc.length = 4 := by omega
          unfold pOpen at e2
          rw [if_pos this] at e2
          have hR : pLaw A q = .error e := by rw [hT]; cases e2; rfl
          have hm3 : mx (pLaw A q) = 401 := by rw [hR]; rfl
          exact flt _ e _ _ _ _ hR _ _ (by omega) (by omega) (hG.tr (pG.s f2)) f4
      · rw [if_neg hk31] at hT
        rw [decide_eq_false (show ¬ tkK A q1.1 = 20 + 11 from hk31)]
        refine sX3_law_20 _ _ _ _ _ ?_
        simp (disch := omega) only [oAld, oCV, oGI, oGR, oIf, oPush, hB.pk, a1, a4, b8, List.getElem?_cons_zero, List.getElem?_cons_succ, List.set_cons_zero, List.set_cons_succ, List.drop_succ_cons, List.drop_zero, List.take_succ_cons, List.take_zero, List.length_cons, List.length_nil, List.reverse_cons, List.reverse_nil, List.nil_append, List.cons_append, Option.toList_some, Option.toList_none, va_rf_s, true_and, and_true, true_implies, false_implies, not_true_eq_false, not_false_eq_true, Nat.reduceAdd, Nat.reduceLeDiff, Nat.le_add_left, Nat.zero_le, Nat.le_refl, znew, true_or, or_true, b01_t, b01_f, b01_ok, bool_ft, vp_b01, vp_b0, vp_b1, b01_eq0, b01_eq1, implies_true, nI_add, nI_clamp, zi_in, zi_le_t, zi_le_f, zi_lt_t, zi_lt_f, zi_eq_t, zi_eq_f, nI_leI, nI_ltI, nI_eq, z_in, pk_mul, zu_same, zu_rw, zu_ix, zi_ne0, zi_sub, zi_m1, Nat.add_sub_cancel, Nat.reduceMul, Nat.reduceSub]
        exact last acc z1 h1 S1 L1 q1 _ _ hT hG hI1 hs hqq hk hn
    | succ f ih =>
      intro acc z1 h1 S1 L1 q1 k n hf hT hG hI1 hs hqq hk hn
      have hX1 : pX c z1 h1 S1 P A N := hX.g (X := (z, h, S, L)) hG
      have hB := hX1.1
      have hge : q1.1 ≤ mx (pLaw A q) := by rw [hT]; exact lw_mono (f + 1) acc q1 hI1.2.2.2.2.1.1
      rw [lwL_s] at hT
      have st3 : ∀ c1 c2 z1 h1 S1 L1 q1 k n, pLaw A q = lw3 A f acc c1 c2 q1 → pG c (z, h, S, L) (z1, h1, S1, L1) → pI c S1 N q1 0 → lwS h1 S1 z z1 acc (some c1) (some c2) → q.1 + 1 ≤ q1.1 → k ≤ 6 * (q1.1 - q.1) → n ≤ 40 * (q1.1 - q.1) → zW V YX3_law 70 [some (.ref (c + 9)), some (.ref z)] [] (z1, h1, S1, L1) k n := by
        intro c1 c2 z1 h1 S1 L1 q1 k n hT hG hI1 hs hqq hk hn
        have hX1 : pX c z1 h1 S1 P A N := hX.g (X := (z, h, S, L)) hG
        have hB := hX1.1
        have hq1 := hI1.2.2.2.2.1.1
        have hT : pLaw A q = pB (rdX A 6 q1) (fun r => pB (pMust A 33 r.2) (fun q2 => pLwL A f (acc ++ [(true, c1, c2, r.1)]) q2)) := hT
        have m1 := mx_rd (rdX_ok A 6) hq1
        have m2 : mx (rdX A 6 q1) ≤ mx (pLaw A q) := by
          rw [hT]
          exact mx_pB (fun r hr => mxM (rdX_ok A 6 q1 r.1 r.2 hr hq1).1.2.2 (fun q2 h2 => lw_mono f _ q2 (mu4 h2 (rdX_ok A 6 q1 r.1 r.2 hr hq1).1.2.2)))
        obtain ⟨⟨a1, a2, a3, a4⟩, -, b7, ⟨b8, -, -⟩, -⟩ := id hs
        refine sX3_law_70 _ _ _ _ _ ?_
        simp (disch := omega) only [oAld, oCV, oGI, oGR, hB.pk, a1, a2, a3, a4, b8, List.getElem?_cons_zero, List.getElem?_cons_succ, List.set_cons_zero, List.set_cons_succ, List.drop_succ_cons, List.drop_zero, List.take_succ_cons, List.take_zero, List.length_cons, List.length_nil, List.reverse_cons, List.reverse_nil, List.nil_append, List.cons_append, Option.toList_some, Option.toList_none, va_rf_s, true_and, and_true, true_implies, false_implies, not_true_eq_false, not_false_eq_true, Nat.reduceAdd, Nat.reduceLeDiff, Nat.le_add_left, Nat.zero_le, Nat.le_refl, znew, true_or, or_true, b01_t, b01_f, b01_ok, bool_ft, vp_b01, vp_b0, vp_b1, b01_eq0, b01_eq1, implies_true, nI_add, nI_clamp, zi_in, zi_le_t, zi_le_f, zi_lt_t, zi_lt_f, zi_eq_t, zi_eq_f, nI_leI, nI_ltI, nI_eq, z_in, pk_mul, zu_same, zu_rw, zu_ix, zi_ne0, zi_sub, zi_m1, Nat.add_sub_cancel, Nat.reduceMul, Nat.reduceSub]
        refine zC.of (sm z1 h1 S1 L1 q1 hX1 hI1) (by omega) (by omega) (by omega) ?_ ?_
        · rintro _ _ ⟨cd, q2, x, z2, h2, S2, L2, e2, rfl, rfl, g2, p2, t2⟩
          have hr := rdX_ok A 6 q1 cd q2 e2 hq1
          rw [e2] at hT m2 ⊢
          have em : mx (Except.ok (cd, q2) : zPR (zCd × zCu)) = q2.1 := rfl
          rw [em] at m2 ⊢
          have hT : pLaw A q = pB (pMust A 33 q2) (fun q3 => pLwL A f (acc ++ [(true, c1, c2, cd)]) q3) := hT
          have hs2 := hs.g hcz g2
          have t2' : isSum h2 S2 (lwD z z2) 400 x cd := (t2.fr (ok' := lwD z z2) (fun _ _ => rfl) (fun _ _ => rfl) (fun b hb => ⟨by omega, hb.2⟩)).le (by omega)
          obtain ⟨hs3, y1, y2⟩ := hs2.put (k := 3) (by omega) t2'
          obtain ⟨kk, hkk, hcl⟩ := t2'.cls
          obtain ⟨-, ⟨⟨b1, b2⟩, ⟨b3, b4⟩, b5, b6⟩, -⟩ := id hs2
          have gA : pG c (z, h, S, L) (z2, zur h2 (z + 3) acc.length (some x), S2, L2) := (hG.tr g2).up (fun b hb => zur_ne (by have hb' : b < z := hb; omega)) (fun _ _ => rfl)
          have hX3 : pX c z2 (zur h2 (z + 3) acc.length (some x)) S2 P A N := hX.g (X := (z, h, S, L)) gA
          have hB := hX3.1
          refine sX3_law_82 _ _ _ _ _ ?_
          simp (disch := omega) only [oAld, oAst9s, oCV, oPush, hB.pk, b1, b2, b3, b4, b5, b6, List.getElem?_cons_zero, List.getElem?_cons_succ, List.set_cons_zero, List.set_cons_succ, List.drop_succ_cons, List.drop_zero, List.take_succ_cons, List.take_zero, List.length_cons, List.length_nil, List.reverse_cons, List.reverse_nil, List.nil_append, List.cons_append, Option.toList_some, Option.toList_none, va_rf_s, true_and, and_true, true_implies, false_implies, not_true_eq_false, not_false_eq_true, Nat.reduceAdd, Nat.reduceLeDiff, Nat.le_add_left, Nat.zero_le, Nat.le_refl, znew, true_or, or_true, b01_t, b01_f, b01_ok, bool_ft, vp_b01, vp_b0, vp_b1, b01_eq0, b01_eq1, implies_true, nI_add, nI_clamp, zi_in, zi_le_t, zi_le_f, zi_lt_t, zi_lt_f, zi_eq_t, zi_eq_f, nI_leI, nI_ltI, nI_eq, z_in, pk_mul, zu_same, zu_rw, zu_ix, zi_ne0, zi_sub, zi_m1, Nat.add_sub_cancel, Nat.reduceMul, Nat.reduceSub]
          refine ⟨kk, hkk, hcl, ?_⟩
          refine zC.of (zX3_word (w := 13) hX3 p2 (by omega)) (by omega) (by omega) (by omega) ?_ ?_
          · rintro _ _ ⟨rfl, q3, S3, e3, rfl, f3, p3⟩
            obtain ⟨eq3, k3, h43⟩ := cMust_ok e3
            rw [e3] at hT
            have hT : pLaw A q = pLwL A f (acc ++ [(true, c1, c2, cd)]) q3 := hT
            have hq3 : q3.1 = q2.1 + 1 := by rw [eq3]
            have hs4 := hs3.g (L1 := L2) hcz (pG.s f3)
            have gB : pG c (z, h, S, L) (z2, zur h2 (z + 3) acc.length (some x), S3, L2) := gA.tr (pG.s f3)
            have b8' : S3 z 3 = nI acc.length := hs4.2.2.2.1.1
            have b1' := hs4.1.1
            refine sX3_law_89 _ _ _ _ _ ?_
            simp (disch := omega) only [oAld, oBin, oDup, oGI, oNop, oPI, oPush, b1', b8', List.getElem?_cons_zero, List.getElem?_cons_succ, List.set_cons_zero, List.set_cons_succ, List.drop_succ_cons, List.drop_zero, List.take_succ_cons, List.take_zero, List.length_cons, List.length_nil, List.reverse_cons, List.reverse_nil, List.nil_append, List.cons_append, Option.toList_some, Option.toList_none, va_rf_s, true_and, and_true, true_implies, false_implies, not_true_eq_false, not_false_eq_true, Nat.reduceAdd, Nat.reduceLeDiff, Nat.le_add_left, Nat.zero_le, Nat.le_refl, znew, true_or, or_true, b01_t, b01_f, b01_ok, bool_ft, vp_b01, vp_b0, vp_b1, b01_eq0, b01_eq1, implies_true, nI_add, nI_clamp, zi_in, zi_le_t, zi_le_f, zi_lt_t, zi_lt_f, zi_eq_t, zi_eq_f, nI_leI, nI_ltI, nI_eq, z_in, pk_mul, zu_same, zu_rw, zu_ix, zi_ne0, zi_sub, zi_m1, Nat.add_sub_cancel, Nat.reduceMul, Nat.reduceSub]
            refine ih _ z2 _ _ L2 q3 _ _ (by rw [List.length_append]; show acc.length + 1 + f = 4; omega) hT ?_ (p3.r (zu_rw _ _ (by omega))) ?_ (by omega) (by omega) (by omega)
            · exact gB.up (fun _ _ => rfl) (fun b hb => zu_rw _ _ (by have hb' : b < z := hb; omega))
            · have y1' : zr (zur h2 (z + 3) acc.length (some x)) (z + 3) acc.length = some x := y1
              have y2' : isSum (zur h2 (z + 3) acc.length (some x)) S3 (lwD z z2) 400 x cd := y2.fr (fun b hb => f3 b (by unfold lwD at hb; omega) (by unfold lwD at hb; omega)) (fun _ _ => rfl) (fun _ hb => hb)
              exact lwS.more (by omega) hs4 y1' y2'
          · rintro _ _ ⟨e, S3, e3, rfl, rfl, f3, f4⟩
            have hR : pLaw A q = .error e := by rw [hT, e3]; rfl
            have hm3 : mx (pLaw A q) = 401 := by rw [hR]; rfl
            exact flt _ e _ _ _ _ hR _ _ (by omega) (by omega) (gA.tr (pG.s f3)) f4
        · rintro _ _ ⟨e, z2, h2, S2, L2, e2, rfl, rfl, g2, f4⟩
          have hR : pLaw A q = .error e := by rw [hT, e2]; rfl
          have hm3 : mx (pLaw A q) = 401 := by rw [hR]; rfl
          have em : mx (rdX A 6 q1) = 401 := by rw [e2]; rfl
          exact flt _ e _ _ _ _ hR _ _ (by omega) (by omega) (hG.tr g2) f4
      have st2 : ∀ c1 z1 h1 S1 L1 q1 k n, pLaw A q = lw2 A f acc c1 q1 → pG c (z, h, S, L) (z1, h1, S1, L1) → pI c S1 N q1 0 → lwS h1 S1 z z1 acc (some c1) none → q.1 + 1 ≤ q1.1 → k ≤ 6 * (q1.1 - q.1) → n ≤ 40 * (q1.1 - q.1) → zW V YX3_law 51 [some (.ref (c + 9)), some (.ref z)] [] (z1, h1, S1, L1) k n := by
        intro c1 z1 h1 S1 L1 q1 k n hT hG hI1 hs hqq hk hn
        have hX1 : pX c z1 h1 S1 P A N := hX.g (X := (z, h, S, L)) hG
        have hB := hX1.1
        have hq1 := hI1.2.2.2.2.1.1
        have hT : pLaw A q = pB (rdX A 6 q1) (fun r => pB (pMust A 32 r.2) (fun q2 => lw3 A f acc c1 r.1 q2)) := hT
        have m1 := mx_rd (rdX_ok A 6) hq1
        have m2 : mx (rdX A 6 q1) ≤ mx (pLaw A q) := by
          rw [hT]
          exact mx_pB (fun r hr => mxM (rdX_ok A 6 q1 r.1 r.2 hr hq1).1.2.2 (fun q2 h2 => lw3_mono (mu4 h2 (rdX_ok A 6 q1 r.1 r.2 hr hq1).1.2.2)))
        obtain ⟨⟨a1, a2, a3, a4⟩, -, b7, ⟨b8, -, -⟩, -⟩ := id hs
        refine sX3_law_51 _ _ _ _ _ ?_
        simp (disch := omega) only [oAld, oCV, oGI, oGR, hB.pk, a1, a2, a3, a4, b8, List.getElem?_cons_zero, List.getElem?_cons_succ, List.set_cons_zero, List.set_cons_succ, List.drop_succ_cons, List.drop_zero, List.take_succ_cons, List.take_zero, List.length_cons, List.length_nil, List.reverse_cons, List.reverse_nil, List.nil_append, List.cons_append, Option.toList_some, Option.toList_none, va_rf_s, true_and, and_true, true_implies, false_implies, not_true_eq_false, not_false_eq_true, Nat.reduceAdd, Nat.reduceLeDiff, Nat.le_add_left, Nat.zero_le, Nat.le_refl, znew, true_or, or_true, b01_t, b01_f, b01_ok, bool_ft, vp_b01, vp_b0, vp_b1, b01_eq0, b01_eq1, implies_true, nI_add, nI_clamp, zi_in, zi_le_t, zi_le_f, zi_lt_t, zi_lt_f, zi_eq_t, zi_eq_f, nI_leI, nI_ltI, nI_eq, z_in, pk_mul, zu_same, zu_rw, zu_ix, zi_ne0, zi_sub, zi_m1, Nat.add_sub_cancel, Nat.reduceMul, Nat.reduceSub]
        refine zC.of (sm z1 h1 S1 L1 q1 hX1 hI1) (by omega) (by omega) (by omega) ?_ ?_
        · rintro _ _ ⟨cd, q2, x, z2, h2, S2, L2, e2, rfl, rfl, g2, p2, t2⟩
          have hr := rdX_ok A 6 q1 cd q2 e2 hq1
          rw [e2] at hT m2 ⊢
          have em : mx (Except.ok (cd, q2) : zPR (zCd × zCu)) = q2.1 := rfl
          rw [em] at m2 ⊢
          have hT : pLaw A q = pB (pMust A 32 q2) (fun q3 => lw3 A f acc c1 cd q3) := hT
          have hs2 := hs.g hcz g2
          have t2' : isSum h2 S2 (lwD z z2) 400 x cd := (t2.fr (ok' := lwD z z2) (fun _ _ => rfl) (fun _ _ => rfl) (fun b hb => ⟨by omega, hb.2⟩)).le (by omega)
          obtain ⟨hs3, y1, y2⟩ := hs2.put (k := 2) (by omega) t2'
          obtain ⟨kk, hkk, hcl⟩ := t2'.cls
          obtain ⟨-, ⟨⟨b1, b2⟩, ⟨b3, b4⟩, b5, b6⟩, -⟩ := id hs2
          have gA : pG c (z, h, S, L) (z2, zur h2 (z + 2) acc.length (some x), S2, L2) := (hG.tr g2).up (fun b hb => zur_ne (by have hb' : b < z := hb; omega)) (fun _ _ => rfl)
          have hX3 : pX c z2 (zur h2 (z + 2) acc.length (some x)) S2 P A N := hX.g (X := (z, h, S, L)) gA
          have hB := hX3.1
          refine sX3_law_63 _ _ _ _ _ ?_
          simp (disch := omega) only [oAld, oAst9s, oCV, oPush, hB.pk, b1, b2, b3, b4, b5, b6, List.getElem?_cons_zero, List.getElem?_cons_succ, List.set_cons_zero, List.set_cons_succ, List.drop_succ_cons, List.drop_zero, List.take_succ_cons, List.take_zero, List.length_cons, List.length_nil, List.reverse_cons, List.reverse_nil, List.nil_append, List.cons_append, Option.toList_some, Option.toList_none, va_rf_s, true_and, and_true, true_implies, false_implies, not_true_eq_false, not_false_eq_true, Nat.reduceAdd, Nat.reduceLeDiff, Nat.le_add_left, Nat.zero_le, Nat.le_refl, znew, true_or, or_true, b01_t, b01_f, b01_ok, bool_ft, vp_b01, vp_b0, vp_b1, b01_eq0, b01_eq1, implies_true, nI_add, nI_clamp, zi_in, zi_le_t, zi_le_f, zi_lt_t, zi_lt_f, zi_eq_t, zi_eq_f, nI_leI, nI_ltI, nI_eq, z_in, pk_mul, zu_same, zu_rw, zu_ix, zi_ne0, zi_sub, zi_m1, Nat.add_sub_cancel, Nat.reduceMul, Nat.reduceSub]
          refine ⟨kk, hkk, hcl, ?_⟩
          refine zC.of (zX3_word (w := 12) hX3 p2 (by omega)) (by omega) (by omega) (by omega) ?_ ?_
          · rintro _ _ ⟨rfl, q3, S3, e3, rfl, f3, p3⟩
            obtain ⟨eq3, k3, h43⟩ := cMust_ok e3
            rw [e3] at hT
            have hT : pLaw A q = lw3 A f acc c1 cd q3 := hT
            have hq3 : q3.1 = q2.1 + 1 := by rw [eq3]
            have hs4 := hs3.g (L1 := L2) hcz (pG.s f3)
            have gB : pG c (z, h, S, L) (z2, zur h2 (z + 2) acc.length (some x), S3, L2) := gA.tr (pG.s f3)
            exact st3 c1 cd z2 _ S3 L2 q3 _ _ hT gB p3 hs4 (by omega) (by omega) (by omega)
          · rintro _ _ ⟨e, S3, e3, rfl, rfl, f3, f4⟩
            have hR : pLaw A q = .error e := by rw [hT, e3]; rfl
            have hm3 : mx (pLaw A q) = 401 := by rw [hR]; rfl
            exact flt _ e _ _ _ _ hR _ _ (by omega) (by omega) (gA.tr (pG.s f3)) f4
        · rintro _ _ ⟨e, z2, h2, S2, L2, e2, rfl, rfl, g2, f4⟩
          have hR : pLaw A q = .error e := by rw [hT, e2]; rfl
          have hm3 : mx (pLaw A q) = 401 := by rw [hR]; rfl
          have em : mx (rdX A 6 q1) = 401 := by rw [e2]; rfl
          exact flt _ e _ _ _ _ hR _ _ (by omega) (by omega) (hG.tr g2) f4
      have st1 : ∀ z1 h1 S1 L1 q1 k n, pLaw A q = lw1 A f acc q1 → pG c (z, h, S, L) (z1, h1, S1, L1) → pI c S1 N q1 0 → lwS h1 S1 z z1 acc none none → q.1 + 1 ≤ q1.1 → k ≤ 6 * (q1.1 - q.1) → n ≤ 40 * (q1.1 - q.1) → zW V YX3_law 32 [some (.ref (c + 9)), some (.ref z)] [] (z1, h1, S1, L1) k n := by
        intro z1 h1 S1 L1 q1 k n hT hG hI1 hs hqq hk hn
        have hX1 : pX c z1 h1 S1 P A N := hX.g (X := (z, h, S, L)) hG
        have hB := hX1.1
        have hq1 := hI1.2.2.2.2.1.1
        have hT : pLaw A q = pB (rdX A 6 q1) (fun r => pB (pMust A 13 r.2) (fun q2 => lw2 A f acc r.1 q2)) := hT
        have m1 := mx_rd (rdX_ok A 6) hq1
        have m2 : mx (rdX A 6 q1) ≤ mx (pLaw A q) := by
          rw [hT]
          exact mx_pB (fun r hr => mxM (rdX_ok A 6 q1 r.1 r.2 hr hq1).1.2.2 (fun q2 h2 => lw2_mono (mu4 h2 (rdX_ok A 6 q1 r.1 r.2 hr hq1).1.2.2)))
        obtain ⟨⟨a1, a2, a3, a4⟩, -, b7, ⟨b8, -, -⟩, -⟩ := id hs
        refine sX3_law_32 _ _ _ _ _ ?_
        simp (disch := omega) only [oAld, oCV, oGI, oGR, hB.pk, a1, a2, a3, a4, b8, List.getElem?_cons_zero, List.getElem?_cons_succ, List.set_cons_zero, List.set_cons_succ, List.drop_succ_cons, List.drop_zero, List.take_succ_cons, List.take_zero, List.length_cons, List.length_nil, List.reverse_cons, List.reverse_nil, List.nil_append, List.cons_append, Option.toList_some, Option.toList_none, va_rf_s, true_and, and_true, true_implies, false_implies, not_true_eq_false, not_false_eq_true, Nat.reduceAdd, Nat.reduceLeDiff, Nat.le_add_left, Nat.zero_le, Nat.le_refl, znew, true_or, or_true, b01_t, b01_f, b01_ok, bool_ft, vp_b01, vp_b0, vp_b1, b01_eq0, b01_eq1, implies_true, nI_add, nI_clamp, zi_in, zi_le_t, zi_le_f, zi_lt_t, zi_lt_f, zi_eq_t, zi_eq_f, nI_leI, nI_ltI, nI_eq, z_in, pk_mul, zu_same, zu_rw, zu_ix, zi_ne0, zi_sub, zi_m1, Nat.add_sub_cancel, Nat.reduceMul, Nat.reduceSub]
        refine zC.of (sm z1 h1 S1 L1 q1 hX1 hI1) (by omega) (by omega) (by omega) ?_ ?_
        · rintro _ _ ⟨cd, q2, x, z2, h2, S2, L2, e2, rfl, rfl, g2, p2, t2⟩
          have hr := rdX_ok A 6 q1 cd q2 e2 hq1
          rw [e2] at hT m2 ⊢
          have em : mx (Except.ok (cd, q2) : zPR (zCd × zCu)) = q2.1 := rfl
          rw [em] at m2 ⊢
          have hT : pLaw A q = pB (pMust A 13 q2) (fun q3 => lw2 A f acc cd q3) := hT
          have hs2 := hs.g hcz g2
          have t2' : isSum h2 S2 (lwD z z2) 400 x cd := (t2.fr (ok' := lwD z z2) (fun _ _ => rfl) (fun _ _ => rfl) (fun b hb => ⟨by omega, hb.2⟩)).le (by omega)
          obtain ⟨hs3, y1, y2⟩ := hs2.put (k := 1) (by omega) t2'
          obtain ⟨kk, hkk, hcl⟩ := t2'.cls
          obtain ⟨-, ⟨⟨b1, b2⟩, ⟨b3, b4⟩, b5, b6⟩, -⟩ := id hs2
          have gA : pG c (z, h, S, L) (z2, zur h2 (z + 1) acc.length (some x), S2, L2) := (hG.tr g2).up (fun b hb => zur_ne (by have hb' : b < z := hb; omega)) (fun _ _ => rfl)
          have hX3 : pX c z2 (zur h2 (z + 1) acc.length (some x)) S2 P A N := hX.g (X := (z, h, S, L)) gA
          have hB := hX3.1
          refine sX3_law_44 _ _ _ _ _ ?_
          simp (disch := omega) only [oAld, oAst9s, oCV, oPush, hB.pk, b1, b2, b3, b4, b5, b6, List.getElem?_cons_zero, List.getElem?_cons_succ, List.set_cons_zero, List.set_cons_succ, List.drop_succ_cons, List.drop_zero, List.take_succ_cons, List.take_zero, List.length_cons, List.length_nil, List.reverse_cons, List.reverse_nil, List.nil_append, List.cons_append, Option.toList_some, Option.toList_none, va_rf_s, true_and, and_true, true_implies, false_implies, not_true_eq_false, not_false_eq_true, Nat.reduceAdd, Nat.reduceLeDiff, Nat.le_add_left, Nat.zero_le, Nat.le_refl, znew, true_or, or_true, b01_t, b01_f, b01_ok, bool_ft, vp_b01, vp_b0, vp_b1, b01_eq0, b01_eq1, implies_true, nI_add, nI_clamp, zi_in, zi_le_t, zi_le_f, zi_lt_t, zi_lt_f, zi_eq_t, zi_eq_f, nI_leI, nI_ltI, nI_eq, z_in, pk_mul, zu_same, zu_rw, zu_ix, zi_ne0, zi_sub, zi_m1, Nat.add_sub_cancel, Nat.reduceMul, Nat.reduceSub]
          refine ⟨kk, hkk, hcl, ?_⟩
          refine zC.of (zX3_sign (k := 13) hX3 p2 ⟨by omega, by omega, by omega, by omega, by omega⟩) (by omega) (by omega) (by omega) ?_ ?_
          · rintro _ _ ⟨rfl, q3, S3, e3, rfl, f3, p3⟩
            obtain ⟨eq3, k3, h43⟩ := cMust_ok e3
            rw [e3] at hT
            have hT : pLaw A q = lw2 A f acc cd q3 := hT
            have hq3 : q3.1 = q2.1 + 1 := by rw [eq3]
            have hs4 := hs3.g (L1 := L2) hcz (pG.s f3)
            have gB : pG c (z, h, S, L) (z2, zur h2 (z + 1) acc.length (some x), S3, L2) := gA.tr (pG.s f3)
            exact st2 cd z2 _ S3 L2 q3 _ _ hT gB p3 hs4 (by omega) (by omega) (by omega)
          · rintro _ _ ⟨e, S3, e3, rfl, rfl, f3, f4⟩
            have hR : pLaw A q = .error e := by rw [hT, e3]; rfl
            have hm3 : mx (pLaw A q) = 401 := by rw [hR]; rfl
            exact flt _ e _ _ _ _ hR _ _ (by omega) (by omega) (gA.tr (pG.s f3)) f4
        · rintro _ _ ⟨e, z2, h2, S2, L2, e2, rfl, rfl, g2, f4⟩
          have hR : pLaw A q = .error e := by rw [hT, e2]; rfl
          have hm3 : mx (pLaw A q) = 401 := by rw [hR]; rfl
          have em : mx (rdX A 6 q1) = 401 := by rw [e2]; rfl
          exact flt _ e _ _ _ _ hR _ _ (by omega) (by omega) (hG.tr g2) f4
      obtain ⟨⟨a1, a2, a3, a4⟩, -, b7, ⟨b8, -, -⟩, -⟩ := id hs
      refine sX3_law_14 _ _ _ _ _ ?_
      simp (disch := omega) only [oAld, oCV, oPush, hB.pk, List.getElem?_cons_zero, List.getElem?_cons_succ, List.set_cons_zero, List.set_cons_succ, List.drop_succ_cons, List.drop_zero, List.take_succ_cons, List.take_zero, List.length_cons, List.length_nil, List.reverse_cons, List.reverse_nil, List.nil_append, List.cons_append, Option.toList_some, Option.toList_none, va_rf_s, true_and, and_true, true_implies, false_implies, not_true_eq_false, not_false_eq_true, Nat.reduceAdd, Nat.reduceLeDiff, Nat.le_add_left, Nat.zero_le, Nat.le_refl, znew, true_or, or_true, b01_t, b01_f, b01_ok, bool_ft, vp_b01, vp_b0, vp_b1, b01_eq0, b01_eq1, implies_true, nI_add, nI_clamp, zi_in, zi_le_t, zi_le_f, zi_lt_t, zi_lt_f, zi_eq_t, zi_eq_f, nI_leI, nI_ltI, nI_eq, z_in, pk_mul, zu_same, zu_rw, zu_ix, zi_ne0, zi_sub, zi_m1, Nat.add_sub_cancel, Nat.reduceMul, Nat.reduceSub]
      refine zC.ofN (zX3_isWord (w := 11) hX1 hI1 (by omega)) (by omega) (by omega) (by omega) ?_
      rintro _ _ ⟨rfl, rfl⟩
      by_cases hk31 : tkK A q1.1 = 31
      · rw [if_pos hk31] at hT
        rw [decide_eq_true (show tkK A q1.1 = 20 + 11 from hk31)]
        refine sX3_law_20 _ _ _ _ _ ?_
        simp (disch := omega) only [oAld, oCV, oGI, oGR, oIf, oPush, hB.pk, a1, b8, List.getElem?_cons_zero, List.getElem?_cons_succ, List.set_cons_zero, List.set_cons_succ, List.drop_succ_cons, List.drop_zero, List.take_succ_cons, List.take_zero, List.length_cons, List.length_nil, List.reverse_cons, List.reverse_nil, List.nil_append, List.cons_append, Option.toList_some, Option.toList_none, va_rf_s, true_and, and_true, true_implies, false_implies, not_true_eq_false, not_false_eq_true, Nat.reduceAdd, Nat.reduceLeDiff, Nat.le_add_left, Nat.zero_le, Nat.le_refl, znew, true_or, or_true, b01_t, b01_f, b01_ok, bool_ft, vp_b01, vp_b0, vp_b1, b01_eq0, b01_eq1, implies_true, nI_add, nI_clamp, zi_in, zi_le_t, zi_le_f, zi_lt_t, zi_lt_f, zi_eq_t, zi_eq_f, nI_leI, nI_ltI, nI_eq, z_in, pk_mul, zu_same, zu_rw, zu_ix, zi_ne0, zi_sub, zi_m1, Nat.add_sub_cancel, Nat.reduceMul, Nat.reduceSub]
        have hnx := hX1.nx hI1.2.2.2.2.1.2 (by omega) (by omega)
        have hO : pOpen A acc.length 4 q1 = pGo A q1 := by unfold pOpen; rw [if_neg (by omega)]
        refine zC.of (zX3_begins (n := acc.length) (m := 4) hX1 hI1 hnx (by omega) (by omega)) (by omega) (by omega) (by omega) ?_ ?_
        · rintro _ _ ⟨rfl, q2, S2, e2, rfl, f2, p2⟩
          rw [hO] at e2
          obtain ⟨eq2, -⟩ := cGo_ok e2
          rw [e2] at hT
          have hT : pLaw A q = lw1 A f acc q2 := hT
          have hq2 : q2.1 = q1.1 + 1 := by rw [eq2]
          exact st1 z1 h1 S2 L1 q2 _ _ hT (hG.tr (pG.s f2)) p2 (hs.g (L1 := L1) hcz (pG.s f2)) (by omega) (by omega) (by omega)
        · rintro _ _ ⟨e, S2, e2, rfl, rfl, f2, f4⟩
          rw [hO] at e2
          have hR : pLaw A q = .error e := by rw [hT, e2]; rfl
          have hm3 : mx (pLaw A q) = 401 := by rw [hR]; rfl
          exact flt _ e _ _ _ _ hR _ _ (by omega) (by omega) (hG.tr (pG.s f2)) f4
      · rw [if_neg hk31] at hT
        rw [decide_eq_false (show ¬ tkK A q1.1 = 20 + 11 from hk31)]
        refine sX3_law_20 _ _ _ _ _ ?_
        simp (disch := omega) only [oAld, oCV, oGI, oGR, oIf, oPush, hB.pk, a1, a4, b8, List.getElem?_cons_zero, List.getElem?_cons_succ, List.set_cons_zero, List.set_cons_succ, List.drop_succ_cons, List.drop_zero, List.take_succ_cons, List.take_zero, List.length_cons, List.length_nil, List.reverse_cons, List.reverse_nil, List.nil_append, List.cons_append, Option.toList_some, Option.toList_none, va_rf_s, true_and, and_true, true_implies, false_implies, not_true_eq_false, not_false_eq_true, Nat.reduceAdd, Nat.reduceLeDiff, Nat.le_add_left, Nat.zero_le, Nat.le_refl, znew, true_or, or_true, b01_t, b01_f, b01_ok, bool_ft, vp_b01, vp_b0, vp_b1, b01_eq0, b01_eq1, implies_true, nI_add, nI_clamp, zi_in, zi_le_t, zi_le_f, zi_lt_t, zi_lt_f, zi_eq_t, zi_eq_f, nI_leI, nI_ltI, nI_eq, z_in, pk_mul, zu_same, zu_rw, zu_ix, zi_ne0, zi_sub, zi_m1, Nat.add_sub_cancel, Nat.reduceMul, Nat.reduceSub]
        exact last acc z1 h1 S1 L1 q1 _ _ hT hG hI1 hs hqq hk hn
  -- the beginning
  refine sX3_law_0 _ _ _ _ _ ?_
  simp (disch := omega) only [oCI, oDup, oNew, hVc, hVs, List.getElem?_cons_zero, List.getElem?_cons_succ, List.set_cons_zero, List.set_cons_succ, List.drop_succ_cons, List.drop_zero, List.take_succ_cons, List.take_zero, List.length_cons, List.length_nil, List.reverse_cons, List.reverse_nil, List.nil_append, List.cons_append, Option.toList_some, Option.toList_none, va_rf_s, true_and, and_true, true_implies, false_implies, not_true_eq_false, not_false_eq_true, Nat.reduceAdd, Nat.reduceLeDiff, Nat.le_add_left, Nat.zero_le, Nat.le_refl, true_or, or_true, b01_t, b01_f, b01_ok, bool_ft, vp_b01, vp_b0, vp_b1, b01_eq0, b01_eq1, implies_true, zneq, hN_ts, hN_to, hN_ns, hN_no, hN_rs, hN_ro, SN_s, SN_o, zur_t, zur_n, zur_rs, zur_rk, zur_ro, nI_add, nI_clamp, zi_in, zi_le_t, zi_le_f, zi_lt_t, zi_lt_f, zi_eq_t, zi_eq_f, nI_leI, nI_ltI, nI_eq, z_in, pk_mul, zu_same, zu_rw, zu_ix, zi_ne0, zi_sub, zi_m1, Nat.add_sub_cancel, Nat.reduceMul, Nat.reduceSub]
  refine ⟨by omega, by omega, ?_⟩
  refine zC.ofN (zX11_init (a := z) hN_ts (by omega)) (by omega) (by omega) (by omega) ?_
  rintro _ _ ⟨rfl, h1, S1, L1, rfl, o1, o2, t1, t2, t3, t4, t5, t6⟩
  have g1 : pG c (z, h, S, L) (z + 4, h1, S1, L1) := ⟨Nat.le_add_right _ _, fun b hb => by
    have hb' : b < z := hb
    exact ⟨(o1 b (by omega) (by omega)).trans (hN_o (by omega)), fun _ _ => (o2 b (by omega)).1.trans (SN_o (by omega)), (o2 b (by omega)).2.trans (LN_o (by omega))⟩⟩
  have hX1 : pX c (z + 4) h1 S1 P A N := hX.g (X := (z, h, S, L)) g1
  have hI1 : pI c S1 N q 0 := hI.r ((o2 (c + 9) (by omega)).1.trans (SN_o (by omega)))
  have hs1 : lwS h1 S1 z (z + 4) [] none none := ⟨⟨t1, t2.1, t2.2.1, t2.2.2⟩, ⟨t3, t4, t5, t6⟩, Nat.le_refl _, ⟨by rw [(o2 z (by omega)).1, SN_s]; rfl, by simp, fun q hq => absurd hq (by simp)⟩, fun i hi => absurd hi (by simp), fun _ e => absurd e (by simp), fun _ e => absurd e (by simp)⟩
  have hB := hX1.1
  have hs5 : isSg 5 := ⟨by omega, by omega, by omega, by omega, by omega⟩
  have hT : pLaw A q = pB (pMust A 5 q) (pLwL A 4 []) := rfl
  refine sX3_law_7 _ _ _ _ _ ?_
  simp (disch := omega) only [oAld, oAst, oCV, oPush, hB.pk, List.getElem?_cons_zero, List.getElem?_cons_succ, List.set_cons_zero, List.set_cons_succ, List.drop_succ_cons, List.drop_zero, List.take_succ_cons, List.take_zero, List.length_cons, List.length_nil, List.reverse_cons, List.reverse_nil, List.nil_append, List.cons_append, Option.toList_some, Option.toList_none, va_rf_s, true_and, and_true, true_implies, false_implies, not_true_eq_false, not_false_eq_true, Nat.reduceAdd, Nat.reduceLeDiff, Nat.le_add_left, Nat.zero_le, Nat.le_refl, znew, true_or, or_true, b01_t, b01_f, b01_ok, bool_ft, vp_b01, vp_b0, vp_b1, b01_eq0, b01_eq1, implies_true, nI_add, nI_clamp, zi_in, zi_le_t, zi_le_f, zi_lt_t, zi_lt_f, zi_eq_t, zi_eq_f, nI_leI, nI_ltI, nI_eq, z_in, pk_mul, zu_same, zu_rw, zu_ix, zi_ne0, zi_sub, zi_m1, Nat.add_sub_cancel, Nat.reduceMul, Nat.reduceSub]
  refine zC.of (zX3_sign (k := 5) hX1 hI1 hs5) (by omega) (by omega) (by omega) ?_ ?_
  · rintro _ _ ⟨rfl, q2, S2, e2, rfl, f2, p2⟩
    obtain ⟨eq2, -, -⟩ := cMust_ok e2
    rw [e2] at hT
    have hq2 : q2.1 = q.1 + 1 := by rw [eq2]
    exact loop 4 [] (z + 4) h1 S2 L1 q2 _ _ rfl hT (g1.tr (pG.s f2)) p2 (hs1.g (L1 := L1) hcz (pG.s f2)) (by omega) (by omega) (by omega)
  · rintro _ _ ⟨e, S2, e2, rfl, rfl, f2, f4⟩
    have hR : pLaw A q = .error e := by rw [hT, e2]; rfl
    have hm3 : mx (pLaw A q) = 401 := by rw [hR]; rfl
    exact flt _ e _ _ _ _ hR _ _ (by omega) (by omega) (g1.tr (pG.s f2)) f4
end FE
