/-! pure: tokens are as they should be; a text without faults is sound -/
def tkG (t : zTk) : Prop := t.1 < 100 ∧ t.2.1 ≤ 2000 ∧ t.2.2.1 < 10000 ∧ isNm t.2.2.2 ∧ hsL t.2.2.2 < 2 ^ 40
theorem isNm_nil : isNm [] := fun x hx => by cases hx
theorem hs_nil : hsL [] < 2 ^ 40 := by decide
theorem kwM_lt {w : List Nat} : ∀ k, k ≤ 23 → kwM w k < 100
  | 0, _ => by rw [kwM]; omega
  | k + 1, h => by
    rw [kwM]; split
    · omega
    · exact kwM_lt k (by omega)
theorem sgK_lt (u : Nat) : sgK u < 100 := by
  unfold sgK
  repeat' split
  all_goals omega
theorem tkO_G {P : List Int32} (hP : P.length ≤ 2000) {i : Nat} (hi : i < P.length) : tkG (tkO P i).1 ∧ (tkO P i).1.2.1 = i := by
  unfold tkO
  split
  · have hin : ∀ j, j < runL P i → isL (by8 P (i + j)) = true := fun j hj => run_in (p := fun j => isL (by8 P j)) hj
    refine ⟨⟨?_, by show i ≤ 2000; omega, by show 0 < 10000; omega, ?_, ?_⟩, rfl⟩
    · show (if 8 < runL P i then 3 else kwM (nmL P i (runL P i)) 23) < 100
      split
      · omega
      · exact kwM_lt 23 (by omega)
    · exact nmL_nm _ (fun j hj => hin j (by omega))
    · have := nmL_hs (P := P) (i := i) (min (runL P i) 8) (fun j hj => hin j (by omega))
      exact Nat.lt_of_lt_of_le this (Nat.le_trans (Nat.pow_le_pow_right (by omega) (by omega : min (runL P i) 8 ≤ 8)) (by decide))
  · split
    · have hin : ∀ j, j < runD P i → isD (by8 P (i + j)) = true := fun j hj => run_in (p := fun j => isD (by8 P j)) hj
      refine ⟨⟨?_, by show i ≤ 2000; omega, ?_, isNm_nil, hs_nil⟩, rfl⟩
      · show (if 4 < runD P i then 3 else 2) < 100
        split <;> omega
      · have := dgV_lt (P := P) (i := i) (min (runD P i) 4) (fun j hj => hin j (by omega))
        exact Nat.lt_of_lt_of_le this (Nat.le_trans (Nat.pow_le_pow_right (by omega) (by omega : min (runD P i) 4 ≤ 4)) (by decide))
    · exact ⟨⟨sgK_lt _, by show i ≤ 2000; omega, by show 0 < 10000; omega, isNm_nil, hs_nil⟩, rfl⟩
theorem tks_P {P : List Int32} (hP : P.length ≤ 2000) : ∀ f i, P.length < f + i → i ≤ P.length →
    (0 < (tks P f i).length ∧ ∀ j, j < (tks P f i).length → ((tks P f i).getD j tk0).1 ≠ 0 → j + 1 < (tks P f i).length) ∧ ((∀ j, j < (tks P f i).length → i ≤ ((tks P f i).getD j tk0).2.1) ∧ ∀ j k, j < k → k < (tks P f i).length → ((tks P f i).getD j tk0).2.1 < ((tks P f i).getD k tk0).2.1) ∧ ∀ t ∈ tks P f i, tkG t
  | 0, i, h1, h2 => by omega
  | f + 1, i, h1, h2 => by
    by_cases hi : i < P.length
    · by_cases hs : isSp (by8 P i) = true
      · have e : tks P (f + 1) i = tks P f (i + 1) := by rw [tks, if_neg (by omega), if_pos hs]
        rw [e]
        obtain ⟨a, ⟨b1, b2⟩, c⟩ := tks_P hP f (i + 1) (by omega) (by omega)
        exact ⟨a, ⟨fun j hj => by have := b1 j hj; omega, b2⟩, c⟩
      · have e : tks P (f + 1) i = (tkO P i).1 :: tks P f (tkO P i).2 := by rw [tks, if_neg (by omega), if_neg hs]
        obtain ⟨hn1, hn2⟩ := tkO_next hi
        obtain ⟨⟨a1, a2⟩, ⟨b1, b2⟩, c⟩ := tks_P hP f (tkO P i).2 (by omega) hn2
        obtain ⟨g1, g2⟩ := tkO_G hP hi
        rw [e]
        refine ⟨⟨by simp, ?_⟩, ⟨?_, ?_⟩, ?_⟩
        · intro j hj hk
          cases j with
          | zero => rw [List.length_cons]; omega
          | succ j =>
            rw [List.length_cons] at hj ⊢
            have := a2 j (by omega) (by simpa using hk)
            omega
        · intro j hj
          cases j with
          | zero => show i ≤ (tkO P i).1.2.1; omega
          | succ j =>
            rw [List.length_cons] at hj
            have := b1 j (by omega)
            show i ≤ ((tks P f (tkO P i).2).getD j tk0).2.1
            omega
        · intro j k hjk hk
          rw [List.length_cons] at hk
          cases k with
          | zero => omega
          | succ k =>
            cases j with
            | zero =>
              have := b1 k (by omega)
              show (tkO P i).1.2.1 < ((tks P f (tkO P i).2).getD k tk0).2.1
              omega
            | succ j => exact b2 j k (by omega) (by omega)
        · intro t ht
          rcases List.mem_cons.mp ht with rfl | ht
          · exact g1
          · exact c t ht
    · have e : tks P (f + 1) i = [(0, P.length, 0, [])] := by rw [tks, if_pos (by omega)]
      rw [e]
      refine ⟨⟨by simp, fun j hj hk => ?_⟩, ⟨fun j hj => ?_, fun j k hjk hk => ?_⟩, fun t ht => ?_⟩
      · have hj0 : j = 0 := by simpa using hj
        subst hj0; exact absurd rfl hk
      · have hj0 : j = 0 := by simpa using hj
        subst hj0; show i ≤ P.length; omega
      · have hk0 : k = 0 := by simpa using hk
        omega
      · rw [List.mem_singleton] at ht
        subst ht
        exact ⟨by show 0 < 100; omega, hP, by show 0 < 10000; omega, isNm_nil, hs_nil⟩
theorem tkA_W {P : List Int32} (hP : P.length ≤ 2000) : tkW (tkA P) ∧ 0 < (tkA P).length := by
  obtain ⟨⟨a1, a2⟩, ⟨-, b2⟩, c⟩ := tks_P hP (P.length + 1) 0 (by omega) (by omega)
  refine ⟨⟨a2, b2, fun i => ?_⟩, a1⟩
  show tkG ((tkA P).getD i tk0)
  by_cases hi : i < (tkA P).length
  · rw [List.getD_eq_getElem?_getD, List.getElem?_eq_getElem hi]
    exact c _ (List.getElem_mem hi)
  · rw [List.getD_eq_getElem?_getD, List.getElem?_eq_none (by omega)]
    exact ⟨by show 0 < 100; omega, by show 0 ≤ 2000; omega, by show 0 < 10000; omega, isNm_nil, hs_nil⟩
/-- a sound text -/
def xOK (x : zTx) : Prop := (∀ s, s < (xS x).length → ∃ a c n, (xS x).getD s s0 = (nI a, nI c, n) ∧ a < (xC x).length ∧ c < (xC x).length ∧ a ≠ c ∧ 1 ≤ n ∧ n ≤ 99) ∧
  (∀ y, y < (xY x).length → ∃ c, ((xY x).getD y y0).2.2.2 = nI c ∧ c < (xC x).length ∧ (10 ≤ ((xY x).getD y y0).2.1 ∧ ((xY x).getD y y0).2.1 ≤ 40) ∧ ((xY x).getD y y0).2.2.1 ≤ 9) ∧
  (∀ w, w < (xW x).length → ((xW x).getD w w0).2 ≤ 99) ∧ (∃ c, (xG x).1 = nI c ∧ (c < (xC x).length ∨ c = 0)) ∧ (xG x).2.1 ≤ 100 ∧ (xG x).2.2 ≤ 9999 ∧ (∀ k, lawOK (xA x k)) ∧ ((xC x).length ≤ 7 ∧ (xS x).length ≤ 10 ∧ (xY x).length ≤ 6 ∧ (xW x).length ≤ 5)
theorem x0_OK : xOK x0 := by
  refine ⟨fun s hs => absurd hs (by simp [x0, xS]), fun y hy => absurd hy (by simp [x0, xY]), fun w hw => absurd hw (by simp [x0, xW]), ⟨0, rfl, Or.inr rfl⟩, by show 0 ≤ 100; omega, by show 0 ≤ 9999; omega, fun k q hq => absurd hq (by simp [x0, xA]), by decide⟩
theorem pTell_n0 {n tok : Nat} {w : Nat × Nat} (hn : n ≠ 0) : (pTell n tok w).1 ≠ 0 := by
  unfold pTell
  split
  · rename_i h; exact h.1
  · exact hn
section NK
variable {A : List zTk} {x x' : zTx} {q q' : zCu}
theorem pKn_0 {kn : List Nat → Option Nat} {c : Option Nat} (h : pKn A kn q = .ok (c, q')) (h0 : q'.2.1 = 0) : q.2.1 = 0 ∧ ∃ i, c = some i ∧ kn (tkN A q.1) = some i := by
  obtain ⟨q1, hm, h⟩ := pB_inv h
  obtain ⟨-, rfl, -⟩ := pMust_inv hm
  cases hk : kn (tkN A q.1) with
  | none =>
    rw [hk] at h; cases h
    exact absurd h0 (pTell_n0 (by omega))
  | some i => rw [hk] at h; cases h; exact ⟨h0, i, rfl, rfl⟩
theorem pNum_0 {lo hi n : Nat} (h : pNum A lo hi q = .ok (n, q')) (h0 : q'.2.1 = 0) : q.2.1 = 0 ∧ lo ≤ n ∧ n ≤ hi := by
  unfold pNum at h
  split at h
  · obtain ⟨q1, hg, h⟩ := pB_inv h
    obtain ⟨rfl, -⟩ := pGo_inv hg
    cases h
    by_cases hv : tkV A q.1 < lo ∨ hi < tkV A q.1
    · have h0' : (if tkV A q.1 < lo ∨ hi < tkV A q.1 then pTell 5 q.1 q.2 else q.2).1 = 0 := h0
      rw [if_pos hv] at h0'
      exact absurd h0' (pTell_n0 (by omega))
    · have h0' : (if tkV A q.1 < lo ∨ hi < tkV A q.1 then pTell 5 q.1 q.2 else q.2).1 = 0 := h0
      rw [if_neg hv] at h0'
      exact ⟨h0', by omega, by omega⟩
  · cases h
theorem pName_0 {has : List Nat → Bool} (h : pName A has q = .ok q') (h0 : q'.2.1 = 0) : q.2.1 = 0 := by
  obtain ⟨q1, hm, h⟩ := pB_inv h
  obtain ⟨-, rfl, -⟩ := pMust_inv hm
  cases h
  by_cases hh : has (tkN A q.1) = true
  · have h0' : (if has (tkN A q.1) = true then pTell 3 q.1 q.2 else q.2).1 = 0 := h0
    rw [if_pos hh] at h0'
    exact absurd h0' (pTell_n0 (by omega))
  · have h0' : (if has (tkN A q.1) = true then pTell 3 q.1 q.2 else q.2).1 = 0 := h0
    rw [if_neg hh] at h0'
    exact h0'
theorem xKn_lt {w : List Nat} {i : Nat} (h : xKn x w = some i) : i < (xC x).length := (firstF_lt h).1
theorem lawOK_snoc {acc : List zBr3} {b3 : zBr3} (h : lawOK acc) (hb : (b3.1 = true → cOK b3.2.1 ∧ cOK b3.2.2.1) ∧ cOK b3.2.2.2) : lawOK (acc ++ [b3]) := by
  intro p hp
  rcases List.mem_append.mp hp with hp | hp
  · exact h p hp
  · rw [List.mem_singleton] at hp; subst hp; exact hb
theorem pLst_ok {acc law : List zBr3} (h : pLst A acc q = .ok (law, q')) (h4 : q.1 ≤ 400) (ha : lawOK acc) : lawOK law ∧ q'.2 = q.2 ∧ q'.1 ≤ 400 := by
  obtain ⟨⟨c, q1⟩, hx, h⟩ := pB_inv h
  cases h
  obtain ⟨k1, k2, k3, k4⟩ := rdX_cOK hx h4
  exact ⟨lawOK_snoc ha ⟨fun h => absurd h (by simp), k1⟩, (rdX_ok A 6 _ _ _ hx h4).2.1, k4⟩
theorem pLwL_ok : ∀ (f : Nat) (acc law : List zBr3) (q q' : zCu), pLwL A f acc q = .ok (law, q') → q.1 ≤ 400 → lawOK acc → lawOK law ∧ q'.2 = q.2 ∧ q'.1 ≤ 400
  | 0, acc, law, q, q', h, h4, ha => by
    rw [pLwL] at h
    split at h
    · cases h
    · exact pLst_ok h h4 ha
  | f + 1, acc, law, q, q', h, h4, ha => by
    rw [pLwL] at h
    split at h
    · obtain ⟨q1, hg, h⟩ := pB_inv h
      obtain ⟨rfl, hg4⟩ := pGo_inv hg
      obtain ⟨⟨c1, q2⟩, hx1, h⟩ := pB_inv h
      obtain ⟨q3, hm1, h⟩ := pB_inv h
      obtain ⟨⟨c2, q4⟩, hx2, h⟩ := pB_inv h
      obtain ⟨q5, hm2, h⟩ := pB_inv h
      obtain ⟨⟨c3, q6⟩, hx3, h⟩ := pB_inv h
      obtain ⟨q7, hm3, h⟩ := pB_inv h
      have g4 : ((q.1 + 1, q.2) : zCu).1 ≤ 400 := by show q.1 + 1 ≤ 400; omega
      obtain ⟨k1, k2, k3, k4⟩ := rdX_cOK hx1 g4
      have r1 := (rdX_ok A 6 _ _ _ hx1 g4).2.1
      obtain ⟨-, rfl, n1⟩ := pMust_inv hm1
      have n1' : ¬ q2.1 = 400 := n1
      have g5 : (((c1, q2).2.1 + 1, (c1, q2).2.2) : zCu).1 ≤ 400 := by show q2.1 + 1 ≤ 400; omega
      obtain ⟨k5, k6, k7, k8⟩ := rdX_cOK hx2 g5
      have r2 := (rdX_ok A 6 _ _ _ hx2 g5).2.1
      obtain ⟨-, rfl, n2⟩ := pMust_inv hm2
      have n2' : ¬ q4.1 = 400 := n2
      have g6 : (((c2, q4).2.1 + 1, (c2, q4).2.2) : zCu).1 ≤ 400 := by show q4.1 + 1 ≤ 400; omega
      obtain ⟨k9, k10, k11, k12⟩ := rdX_cOK hx3 g6
      have r3 := (rdX_ok A 6 _ _ _ hx3 g6).2.1
      obtain ⟨-, rfl, n3⟩ := pMust_inv hm3
      have n3' : ¬ q6.1 = 400 := n3
      obtain ⟨m1, m2, m3⟩ := pLwL_ok f _ _ _ _ h (by show q6.1 + 1 ≤ 400; omega) (lawOK_snoc ha ⟨fun _ => ⟨k1, k5⟩, k9⟩)
      refine ⟨m1, ?_, m3⟩
      rw [m2]; show q6.2 = q.2
      rw [r3]; show q4.2 = q.2
      rw [r2]; show q2.2 = q.2
      rw [r1]
    · exact pLst_ok h h4 ha
theorem pLaw_ok {law : List zBr3} (h : pLaw A q = .ok (law, q')) (h4 : q.1 ≤ 400) : lawOK law ∧ q'.2 = q.2 ∧ q'.1 ≤ 400 := by
  obtain ⟨q1, hm, h⟩ := pB_inv h
  obtain ⟨-, rfl, n1⟩ := pMust_inv hm
  obtain ⟨m1, m2, m3⟩ := pLwL_ok 4 [] law _ q' h (by show q.1 + 1 ≤ 400; omega) (fun p hp => by cases hp)
  exact ⟨m1, m2, m3⟩
end NK
