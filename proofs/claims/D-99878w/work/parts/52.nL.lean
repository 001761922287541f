/-! pure: a text read without faults is sound -/
section NL
variable {A : List zTk} {x x' : zTx} {q q' : zCu}
theorem cor_0 (h : pCor A x q = .ok (x', q')) (h4 : q.1 ≤ 400) : (q'.1 ≤ 400 ∧ q.1 < q'.1) ∧ (q'.2.1 = 0 → q.2.1 = 0 ∧ (xOK x → (xC x).length < 7 → xOK x')) := by
  obtain ⟨q1, h1, h⟩ := pB_inv h
  obtain ⟨q2, h2, h⟩ := pB_inv h
  cases h
  obtain ⟨-, rfl, n2⟩ := pMust_inv h2
  have e1 := pName_at h1
  refine ⟨⟨by show q1.1 + 1 ≤ 400; have : ¬ q1.1 = 400 := n2; have := e1; obtain ⟨q5, hm, -⟩ := pB_inv h1; have := (pMust_inv hm).2.2; omega, by show q.1 < q1.1 + 1; omega⟩, fun h0 => ⟨pName_0 h1 h0, fun hx hl => ?_⟩⟩
  obtain ⟨a1, a2, a3, ⟨c, a4, a5⟩, a6, a7, a8, a9⟩ := hx
  have hC : (xC (addC x (tkN A q.1))).length = (xC x).length + 1 := by show (xC x ++ [_]).length = _; rw [List.length_append]; rfl
  refine ⟨fun s hs => ?_, fun y hy => ?_, a3, ⟨c, a4, by rw [hC]; omega⟩, a6, a7, a8, by rw [hC]; exact ⟨by omega, a9.2.1, a9.2.2.1, a9.2.2.2⟩⟩
  · obtain ⟨i, j, n, b1, b2, b3, b4⟩ := a1 s hs
    exact ⟨i, j, n, b1, by rw [hC]; omega, by rw [hC]; omega, b4⟩
  · obtain ⟨i, b1, b2, b3⟩ := a2 y hy
    exact ⟨i, b1, by rw [hC]; omega, b3⟩
theorem str_0 (h : pStr A x q = .ok (x', q')) (h4 : q.1 ≤ 400) : (q'.1 ≤ 400 ∧ q.1 < q'.1) ∧ (q'.2.1 = 0 → q.2.1 = 0 ∧ (xOK x → (xS x).length < 10 → xOK x')) := by
  obtain ⟨⟨c1, q1⟩, h1, h⟩ := pB_inv h
  obtain ⟨⟨c2, q2⟩, h2, h⟩ := pB_inv h
  obtain ⟨⟨n, q3⟩, h3, h⟩ := pB_inv h
  obtain ⟨q4, h5, h⟩ := pB_inv h
  cases h
  obtain ⟨-, rfl, n4⟩ := pMust_inv h5
  have e1 : q1.1 = q.1 + 1 := (pKn_inv h1).2.2.2
  have e2 : q2.1 = q1.1 + 1 := (pKn_inv h2).2.2.2
  have e3 : q3.1 = q2.1 + 1 := (pNum_inv h3).1
  have m1 := (pKn_inv h1).2.2.1
  have m2 : ¬ q1.1 = 400 := (pKn_inv h2).2.2.1
  have m3 : ¬ q2.1 = 400 := (pNum_inv h3).2.2.2
  have m4 : ¬ q3.1 = 400 := n4
  refine ⟨⟨by show q3.1 + 1 ≤ 400; omega, by show q.1 < q3.1 + 1; omega⟩, fun h0 => ?_⟩
  obtain ⟨z3, l3, l3'⟩ := pNum_0 h3 h0
  by_cases hc : c1.isSome = true ∧ c1 = c2
  · have z3' : (if c1.isSome = true ∧ c1 = c2 then pTell 3 q1.1 q2.2 else q2.2).1 = 0 := z3
    rw [if_pos hc] at z3'
    exact absurd z3' (pTell_n0 (by omega))
  · have z3' : (if c1.isSome = true ∧ c1 = c2 then pTell 3 q1.1 q2.2 else q2.2).1 = 0 := z3
    rw [if_neg hc] at z3'
    obtain ⟨z2, i2, rfl, k2⟩ := pKn_0 h2 z3'
    obtain ⟨z1, i1, rfl, k1⟩ := pKn_0 h1 z2
    refine ⟨z1, fun hx hl => ?_⟩
    obtain ⟨a1, a2, a3, a4, a6, a7, a8, a9⟩ := hx
    have hS : (xS (addS x (oM (some i1), oM (some i2), n))).length = (xS x).length + 1 := by show (xS x ++ [_]).length = _; rw [List.length_append]; rfl
    refine ⟨fun s hs => ?_, a2, a3, a4, a6, a7, a8, ⟨a9.1, by rw [hS]; omega, a9.2.2⟩⟩
    rw [hS] at hs
    show ∃ a c m, (xS x ++ [(oM (some i1), oM (some i2), n)]).getD s s0 = _ ∧ _
    rw [getD_snS]
    by_cases he : s = (xS x).length
    · rw [if_pos he]
      exact ⟨i1, i2, n, rfl, xKn_lt k1, xKn_lt k2, fun e => hc ⟨rfl, by rw [e]⟩, l3, l3'⟩
    · rw [if_neg he, if_pos (by omega)]
      exact a1 s (by omega)
theorem you_0 (h : pYou A x q = .ok (x', q')) (h4 : q.1 ≤ 400) : (q'.1 ≤ 400 ∧ q.1 < q'.1) ∧ (q'.2.1 = 0 → q.2.1 = 0 ∧ (xOK x → (xY x).length < 6 → xOK x')) := by
  obtain ⟨q1, h1, h⟩ := pB_inv h
  obtain ⟨⟨n2, q2⟩, h2, h⟩ := pB_inv h
  obtain ⟨⟨n3, q3⟩, h3, h⟩ := pB_inv h
  obtain ⟨⟨c4, q4⟩, h5, h⟩ := pB_inv h
  obtain ⟨q5, h6, h⟩ := pB_inv h
  cases h
  obtain ⟨-, rfl, n5⟩ := pMust_inv h6
  have e1 := pName_at h1
  have e2 : q2.1 = q1.1 + 1 := (pNum_inv h2).1
  have e3 : q3.1 = q2.1 + 1 := (pNum_inv h3).1
  have e4 : q4.1 = q3.1 + 1 := (pKn_inv h5).2.2.2
  have m0 : ¬ q.1 = 400 := by obtain ⟨q5, hm, -⟩ := pB_inv h1; exact (pMust_inv hm).2.2
  have m1 : ¬ q1.1 = 400 := (pNum_inv h2).2.2.2
  have m2 : ¬ q2.1 = 400 := (pNum_inv h3).2.2.2
  have m3 : ¬ q3.1 = 400 := (pKn_inv h5).2.2.1
  have m4 : ¬ q4.1 = 400 := n5
  refine ⟨⟨by show q4.1 + 1 ≤ 400; omega, by show q.1 < q4.1 + 1; omega⟩, fun h0 => ?_⟩
  obtain ⟨z4, i, rfl, k4⟩ := pKn_0 h5 h0
  obtain ⟨z3, l3, l3'⟩ := pNum_0 h3 z4
  obtain ⟨z2, l2, l2'⟩ := pNum_0 h2 z3
  refine ⟨pName_0 h1 z2, fun hx hl => ?_⟩
  obtain ⟨a1, a2, a3, a4, a6, a7, a8, a9⟩ := hx
  have hS : (xY (addY x (tkN A q.1, n2, n3, oM (some i)))).length = (xY x).length + 1 := by show (xY x ++ [_]).length = _; rw [List.length_append]; rfl
  refine ⟨a1, fun y hy => ?_, a3, a4, a6, a7, a8, ⟨a9.1, a9.2.1, by rw [hS]; omega, a9.2.2.2⟩⟩
  rw [hS] at hy
  show ∃ c, ((xY x ++ [(tkN A q.1, n2, n3, oM (some i))]).getD y y0).2.2.2 = nI c ∧ c < (xC x).length ∧ (10 ≤ ((xY x ++ [(tkN A q.1, n2, n3, oM (some i))]).getD y y0).2.1 ∧ ((xY x ++ [(tkN A q.1, n2, n3, oM (some i))]).getD y y0).2.1 ≤ 40) ∧ ((xY x ++ [(tkN A q.1, n2, n3, oM (some i))]).getD y y0).2.2.1 ≤ 9
  rw [getD_snY]
  by_cases he : y = (xY x).length
  · rw [if_pos he]
    exact ⟨i, rfl, xKn_lt k4, ⟨l2, l2'⟩, l3'⟩
  · rw [if_neg he, if_pos (by omega)]
    exact a2 y (by omega)
theorem wor_0 (h : pWor A x q = .ok (x', q')) (h4 : q.1 ≤ 400) : (q'.1 ≤ 400 ∧ q.1 < q'.1) ∧ (q'.2.1 = 0 → q.2.1 = 0 ∧ (xOK x → (xW x).length < 5 → xOK x')) := by
  obtain ⟨q1, h1, h⟩ := pB_inv h
  obtain ⟨⟨n2, q2⟩, h2, h⟩ := pB_inv h
  obtain ⟨q5, h6, h⟩ := pB_inv h
  cases h
  obtain ⟨-, rfl, n5⟩ := pMust_inv h6
  have e1 := pName_at h1
  have e2 : q2.1 = q1.1 + 1 := (pNum_inv h2).1
  have m0 : ¬ q.1 = 400 := by obtain ⟨q5, hm, -⟩ := pB_inv h1; exact (pMust_inv hm).2.2
  have m1 : ¬ q1.1 = 400 := (pNum_inv h2).2.2.2
  have m4 : ¬ q2.1 = 400 := n5
  refine ⟨⟨by show q2.1 + 1 ≤ 400; omega, by show q.1 < q2.1 + 1; omega⟩, fun h0 => ?_⟩
  obtain ⟨z2, l2, l2'⟩ := pNum_0 h2 h0
  refine ⟨pName_0 h1 z2, fun hx hl => ?_⟩
  obtain ⟨a1, a2, a3, a4, a6, a7, a8, a9⟩ := hx
  have hS : (xW (addW x (tkN A q.1, n2))).length = (xW x).length + 1 := by show (xW x ++ [_]).length = _; rw [List.length_append]; rfl
  refine ⟨a1, a2, fun w hw => ?_, a4, a6, a7, a8, ⟨a9.1, a9.2.1, a9.2.2.1, by rw [hS]; omega⟩⟩
  rw [hS] at hw
  show ((xW x ++ [(tkN A q.1, n2)]).getD w w0).2 ≤ 99
  rw [getD_snW]
  by_cases he : w = (xW x).length
  · rw [if_pos he]; exact l2'
  · rw [if_neg he, if_pos (by omega)]
    exact a3 w (by omega)
theorem lig_0 (h : pLig A x q = .ok (x', q')) (h4 : q.1 ≤ 400) : (q'.1 ≤ 400 ∧ q.1 < q'.1) ∧ (q'.2.1 = 0 → q.2.1 = 0 ∧ (xOK x → xOK x')) := by
  obtain ⟨⟨c1, q1⟩, h1, h⟩ := pB_inv h
  obtain ⟨q5, h6, h⟩ := pB_inv h
  cases h
  obtain ⟨-, rfl, n5⟩ := pMust_inv h6
  have e1 : q1.1 = q.1 + 1 := (pKn_inv h1).2.2.2
  have m1 := (pKn_inv h1).2.2.1
  have m4 : ¬ q1.1 = 400 := n5
  refine ⟨⟨by show q1.1 + 1 ≤ 400; omega, by show q.1 < q1.1 + 1; omega⟩, fun h0 => ?_⟩
  obtain ⟨z1, i, rfl, k1⟩ := pKn_0 h1 h0
  refine ⟨z1, fun hx => ?_⟩
  obtain ⟨a1, a2, a3, a4, a6, a7, a8, a9⟩ := hx
  exact ⟨a1, a2, a3, ⟨i, rfl, Or.inl (xKn_lt k1)⟩, a6, a7, a8, a9⟩
theorem dra_0 (h : pDra A x q = .ok (x', q')) (h4 : q.1 ≤ 400) : (q'.1 ≤ 400 ∧ q.1 < q'.1) ∧ (q'.2.1 = 0 → q.2.1 = 0 ∧ (xOK x → xOK x')) := by
  obtain ⟨⟨n1, q1⟩, h1, h⟩ := pB_inv h
  obtain ⟨q5, h6, h⟩ := pB_inv h
  cases h
  obtain ⟨-, rfl, n5⟩ := pMust_inv h6
  have e1 : q1.1 = q.1 + 1 := (pNum_inv h1).1
  have m1 := (pNum_inv h1).2.2.2
  have m4 : ¬ q1.1 = 400 := n5
  refine ⟨⟨by show q1.1 + 1 ≤ 400; omega, by show q.1 < q1.1 + 1; omega⟩, fun h0 => ?_⟩
  obtain ⟨z1, l1, l2⟩ := pNum_0 h1 h0
  refine ⟨z1, fun hx => ?_⟩
  obtain ⟨a1, a2, a3, a4, a6, a7, a8, a9⟩ := hx
  exact ⟨a1, a2, a3, a4, l2, a7, a8, a9⟩
theorem see_0 (h : pSee A x q = .ok (x', q')) (h4 : q.1 ≤ 400) : (q'.1 ≤ 400 ∧ q.1 < q'.1) ∧ (q'.2.1 = 0 → q.2.1 = 0 ∧ (xOK x → xOK x')) := by
  obtain ⟨⟨n1, q1⟩, h1, h⟩ := pB_inv h
  obtain ⟨q5, h6, h⟩ := pB_inv h
  cases h
  obtain ⟨-, rfl, n5⟩ := pMust_inv h6
  have e1 : q1.1 = q.1 + 1 := (pNum_inv h1).1
  have m1 := (pNum_inv h1).2.2.2
  have m4 : ¬ q1.1 = 400 := n5
  refine ⟨⟨by show q1.1 + 1 ≤ 400; omega, by show q.1 < q1.1 + 1; omega⟩, fun h0 => ?_⟩
  obtain ⟨z1, l1, l2⟩ := pNum_0 h1 h0
  refine ⟨z1, fun hx => ?_⟩
  obtain ⟨a1, a2, a3, a4, a6, a7, a8, a9⟩ := hx
  exact ⟨a1, a2, a3, a4, a6, l2, a8, a9⟩
theorem pLst_at {acc law : List zBr3} (h : pLst A acc q = .ok (law, q')) (h4 : q.1 ≤ 400) : q.1 < q'.1 := by
  obtain ⟨⟨c, q1⟩, hx, h⟩ := pB_inv h
  cases h
  obtain ⟨k1, k2, k3, k4⟩ := rdX_cOK hx h4
  show q.1 < q1.1
  omega
theorem pLwL_at : ∀ (f : Nat) (acc law : List zBr3) (q q' : zCu), pLwL A f acc q = .ok (law, q') → q.1 ≤ 400 → q.1 < q'.1
  | 0, acc, law, q, q', h, h4 => by
    rw [pLwL] at h
    split at h
    · cases h
    · exact pLst_at h h4
  | f + 1, acc, law, q, q', h, h4 => by
    rw [pLwL] at h
    split at h
    · obtain ⟨q1, hg, h⟩ := pB_inv h
      obtain ⟨rfl, hg4⟩ := pGo_inv hg
      obtain ⟨⟨c1, q2⟩, hx1, h⟩ := pB_inv h
      obtain ⟨q3, hm1, h⟩ := pB_inv h
      obtain ⟨⟨c2, q4⟩, hx2, h⟩ := pB_inv h
      obtain ⟨q5, hm2, h⟩ := pB_inv h
      obtain ⟨⟨c3, q6⟩, hx3, h⟩ := pB_inv h
      obtain ⟨q7, hm3, h⟩ := pB_inv h
      have g4 : ((q.1 + 1, q.2) : zCu).1 ≤ 400 := by show q.1 + 1 ≤ 400; omega
      obtain ⟨k1, k2, k3, k4⟩ := rdX_cOK hx1 g4
      obtain ⟨-, rfl, n1⟩ := pMust_inv hm1
      have n1' : ¬ q2.1 = 400 := n1
      have g5 : (((c1, q2).2.1 + 1, (c1, q2).2.2) : zCu).1 ≤ 400 := by show q2.1 + 1 ≤ 400; omega
      obtain ⟨k5, k6, k7, k8⟩ := rdX_cOK hx2 g5
      obtain ⟨-, rfl, n2⟩ := pMust_inv hm2
      have n2' : ¬ q4.1 = 400 := n2
      have g6 : (((c2, q4).2.1 + 1, (c2, q4).2.2) : zCu).1 ≤ 400 := by show q4.1 + 1 ≤ 400; omega
      obtain ⟨k9, k10, k11, k12⟩ := rdX_cOK hx3 g6
      obtain ⟨-, rfl, n3⟩ := pMust_inv hm3
      have n3' : ¬ q6.1 = 400 := n3
      have := pLwL_at f _ _ _ _ h (by show q6.1 + 1 ≤ 400; omega)
      have h1 : q6.1 + 1 < q'.1 := this
      have k2' : q.1 + 1 + c1.length ≤ q2.1 := k2
      have k6' : q2.1 + 1 + c2.length ≤ q4.1 := k6
      have k10' : q4.1 + 1 + c3.length ≤ q6.1 := k10
      omega
    · exact pLst_at h h4
theorem lws_0 {k : Nat} (h : pLwS A x k q = .ok (x', q')) (h4 : q.1 ≤ 400) : (q'.1 ≤ 400 ∧ q.1 < q'.1) ∧ (q'.2.1 = 0 → q.2.1 = 0 ∧ (xOK x → xOK x')) := by
  obtain ⟨⟨law, q1⟩, h1, h⟩ := pB_inv h
  obtain ⟨q5, h6, h⟩ := pB_inv h
  cases h
  obtain ⟨-, rfl, n5⟩ := pMust_inv h6
  obtain ⟨m1, m2, m3⟩ := pLaw_ok h1 h4
  have m4 : ¬ q1.1 = 400 := n5
  have m3' : q1.1 ≤ 400 := m3
  have hlt : q.1 < q1.1 := by
    obtain ⟨q2, hm, hl⟩ := pB_inv h1
    obtain ⟨-, rfl, n6⟩ := pMust_inv hm
    have := pLwL_at _ _ _ _ _ hl (by show q.1 + 1 ≤ 400; omega)
    have h9 : q.1 + 1 < q1.1 := this
    omega
  refine ⟨⟨by show q1.1 + 1 ≤ 400; omega, by show q.1 < q1.1 + 1; omega⟩, fun h0 => ⟨?_, fun hx => ?_⟩⟩
  · have h0' : q1.2.1 = 0 := h0
    have m2' : q1.2 = q.2 := m2
    rw [← m2']; exact h0'
  · obtain ⟨a1, a2, a3, a4, a6, a7, a8, a9⟩ := hx
    refine ⟨a1, a2, a3, a4, a6, a7, fun j => ?_, a9⟩
    show lawOK (if j = k then law else xA x j)
    split
    · exact m1
    · exact a8 j
theorem pGo_0 {q1 : zCu} (h : pGo A q = .ok q1) (h4 : q.1 ≤ 400) : q1.1 = q.1 + 1 ∧ q1.1 ≤ 400 ∧ q1.2 = q.2 := by
  obtain ⟨rfl, h5⟩ := pGo_inv h
  exact ⟨rfl, by show q.1 + 1 ≤ 400; omega, rfl⟩
theorem pOpen_0 {n m : Nat} {q1 : zCu} (h : pOpen A n m q = .ok q1) (h4 : q.1 ≤ 400) : n ≠ m ∧ q1.1 = q.1 + 1 ∧ q1.1 ≤ 400 ∧ q1.2 = q.2 := by
  unfold pOpen at h
  split at h
  · cases h
  · rename_i hn; exact ⟨hn, pGo_0 h h4⟩
theorem stm_0 (h : pStm A (x, q) = .ok (x', q')) (h4 : q.1 ≤ 400) : (q'.1 ≤ 400 ∧ q.1 < q'.1) ∧ (q'.2.1 = 0 → q.2.1 = 0 ∧ (xOK x → xOK x')) := by
  have fin : ∀ q1 : zCu, q1.1 = q.1 + 1 ∧ q1.1 ≤ 400 ∧ q1.2 = q.2 → ((q'.1 ≤ 400 ∧ q1.1 < q'.1) ∧ (q'.2.1 = 0 → q1.2.1 = 0 ∧ (xOK x → xOK x'))) → (q'.1 ≤ 400 ∧ q.1 < q'.1) ∧ (q'.2.1 = 0 → q.2.1 = 0 ∧ (xOK x → xOK x')) := by
    intro q1 ⟨e1, e2, e3⟩ ⟨⟨a1, a2⟩, a3⟩
    refine ⟨⟨a1, by omega⟩, fun h0 => ?_⟩
    rw [← e3]; exact a3 h0
  have fin2 : ∀ (q1 : zCu) (n m : Nat), (xOK x → n ≤ m) → n ≠ m ∧ q1.1 = q.1 + 1 ∧ q1.1 ≤ 400 ∧ q1.2 = q.2 → ((q'.1 ≤ 400 ∧ q1.1 < q'.1) ∧ (q'.2.1 = 0 → q1.2.1 = 0 ∧ (xOK x → n < m → xOK x'))) → (q'.1 ≤ 400 ∧ q.1 < q'.1) ∧ (q'.2.1 = 0 → q.2.1 = 0 ∧ (xOK x → xOK x')) := by
    intro q1 n m hnm ⟨hne, e⟩ ⟨a1, a3⟩
    exact fin q1 e ⟨a1, fun h0 => ⟨(a3 h0).1, fun hx => (a3 h0).2 hx (by have := hnm hx; omega)⟩⟩
  unfold pStm at h
  split at h
  · obtain ⟨q1, h1, h⟩ := pB_inv h
    exact fin2 q1 _ 7 (fun hx => hx.2.2.2.2.2.2.2.1) (pOpen_0 h1 h4) (cor_0 h (pOpen_0 h1 h4).2.2.1)
  · split at h
    · obtain ⟨q1, h1, h⟩ := pB_inv h
      exact fin2 q1 _ 10 (fun hx => hx.2.2.2.2.2.2.2.2.1) (pOpen_0 h1 h4) (str_0 h (pOpen_0 h1 h4).2.2.1)
    · split at h
      · obtain ⟨q1, h1, h⟩ := pB_inv h
        exact fin2 q1 _ 6 (fun hx => hx.2.2.2.2.2.2.2.2.2.1) (pOpen_0 h1 h4) (you_0 h (pOpen_0 h1 h4).2.2.1)
      · split at h
        · obtain ⟨q1, h1, h⟩ := pB_inv h
          exact fin2 q1 _ 5 (fun hx => hx.2.2.2.2.2.2.2.2.2.2) (pOpen_0 h1 h4) (wor_0 h (pOpen_0 h1 h4).2.2.1)
        · split at h
          · obtain ⟨q1, h1, h⟩ := pB_inv h
            exact fin q1 (pGo_0 h1 h4) (lig_0 h (pGo_0 h1 h4).2.1)
          · split at h
            · obtain ⟨q1, h1, h⟩ := pB_inv h
              exact fin q1 (pGo_0 h1 h4) (dra_0 h (pGo_0 h1 h4).2.1)
            · split at h
              · obtain ⟨q1, h1, h⟩ := pB_inv h
                exact fin q1 (pGo_0 h1 h4) (see_0 h (pGo_0 h1 h4).2.1)
              · split at h
                · obtain ⟨q1, h1, h⟩ := pB_inv h
                  exact fin q1 (pGo_0 h1 h4) (lws_0 h (pGo_0 h1 h4).2.1)
                · cases h
end NL
theorem pRd_0 {A : List zTk} : ∀ (f : Nat) (x : zTx) (q : zCu) (x' : zTx) (q' : zCu), pRd A f (x, q) = .ok (x', q') → q.1 ≤ 400 → q'.1 ≤ 400 ∧ (q'.2.1 = 0 → q.2.1 = 0 ∧ (xOK x → xOK x'))
  | 0, x, q, x', q', h, h4 => by
    cases h; exact ⟨h4, fun h0 => ⟨h0, fun hx => hx⟩⟩
  | f + 1, x, q, x', q', h, h4 => by
    rw [pRd] at h
    split at h
    · cases h; exact ⟨h4, fun h0 => ⟨h0, fun hx => hx⟩⟩
    · obtain ⟨⟨x1, q1⟩, h1, h⟩ := pB_inv h
      obtain ⟨⟨a1, a2⟩, a3⟩ := stm_0 h1 h4
      obtain ⟨b1, b2⟩ := pRd_0 f x1 q1 x' q' h a1
      refine ⟨b1, fun h0 => ?_⟩
      obtain ⟨c1, c2⟩ := b2 h0
      obtain ⟨d1, d2⟩ := a3 c1
      exact ⟨d1, fun hx => c2 (d2 hx)⟩
theorem pTxt_OK {P : List Int32} {x : zTx} (h : pTxt P = .ok x) : xOK x := by
  obtain ⟨⟨x1, q1⟩, h1, h⟩ := pB_inv h
  obtain ⟨-, b⟩ := pRd_0 401 x0 (0, 0, 0) x1 q1 h1 (by show 0 ≤ 400; omega)
  unfold pEnd at h
  split at h
  · rename_i h0
    cases h
    exact (b h0).2 x0_OK
  · cases h
