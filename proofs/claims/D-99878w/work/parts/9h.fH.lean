/-! the component's parser: one thing told (pure, and what its walk stands on) -/
def qCor (A : List zTk) (x : zTx) (q : zCu) : zPR zPX := pB (pName A (xHas x) q) (fun q2 => .ok (addC x (tkN A q.1), q2))
def qSt3 (A : List zTk) (x : zTx) (v1 v2 : Option Nat) (q : zCu) : zPR zPX := pB (pNum A 1 99 q) (fun r3 => .ok (addS x (oM v1, oM v2, r3.1), r3.2))
def qSt2 (A : List zTk) (x : zTx) (v1 : Option Nat) (q : zCu) : zPR zPX := pB (pKn A (xKn x) q) (fun r2 => qSt3 A x v1 r2.1 (r2.2.1, if v1.isSome = true ∧ v1 = r2.1 then pTell 3 q.1 r2.2.2 else r2.2.2))
def qStr (A : List zTk) (x : zTx) (q : zCu) : zPR zPX := pB (pKn A (xKn x) q) (fun r1 => qSt2 A x r1.1 r1.2)
def qYo4 (A : List zTk) (x : zTx) (w : List Nat) (a t : Nat) (q : zCu) : zPR zPX := pB (pKn A (xKn x) q) (fun r5 => .ok (addY x (w, a, t, oM r5.1), r5.2))
def qYo3 (A : List zTk) (x : zTx) (w : List Nat) (a : Nat) (q : zCu) : zPR zPX := pB (pNum A 0 9 q) (fun r4 => qYo4 A x w a r4.1 r4.2)
def qYo2 (A : List zTk) (x : zTx) (w : List Nat) (q : zCu) : zPR zPX := pB (pNum A 10 40 q) (fun r3 => qYo3 A x w r3.1 r3.2)
def qYou (A : List zTk) (x : zTx) (q : zCu) : zPR zPX := pB (pName A (xHas x) q) (fun q2 => qYo2 A x (tkN A q.1) q2)
def qWo2 (A : List zTk) (x : zTx) (w : List Nat) (q : zCu) : zPR zPX := pB (pNum A 0 99 q) (fun r3 => .ok (addW x (w, r3.1), r3.2))
def qWor (A : List zTk) (x : zTx) (q : zCu) : zPR zPX := pB (pName A (xHas x) q) (fun q2 => qWo2 A x (tkN A q.1) q2)
def qLig (A : List zTk) (x : zTx) (q : zCu) : zPR zPX := pB (pKn A (xKn x) q) (fun r => .ok (setG x (oM r.1, (xG x).2), r.2))
def qDra (A : List zTk) (x : zTx) (q : zCu) : zPR zPX := pB (pNum A 0 100 q) (fun r => .ok (setG x ((xG x).1, r.1, (xG x).2.2), r.2))
def qSee (A : List zTk) (x : zTx) (q : zCu) : zPR zPX := pB (pNum A 0 9999 q) (fun r => .ok (setG x ((xG x).1, (xG x).2.1, r.1), r.2))
def qLwS (A : List zTk) (x : zTx) (k : Nat) (q : zCu) : zPR zPX := pB (pLaw A q) (fun r => .ok (setA x k r.1, r.2))
def qStm (A : List zTk) (p : zPX) : zPR zPX :=
  if tkK A p.2.1 = 20 then pB (pOpen A (xC p.1).length 7 p.2) (qCor A p.1)
  else if tkK A p.2.1 = 21 then pB (pOpen A (xS p.1).length 10 p.2) (qStr A p.1)
  else if tkK A p.2.1 = 22 then pB (pOpen A (xY p.1).length 6 p.2) (qYou A p.1)
  else if tkK A p.2.1 = 23 then pB (pOpen A (xW p.1).length 5 p.2) (qWor A p.1)
  else if tkK A p.2.1 = 24 then pB (pGo A p.2) (qLig A p.1)
  else if tkK A p.2.1 = 29 then pB (pGo A p.2) (qDra A p.1)
  else if tkK A p.2.1 = 30 then pB (pGo A p.2) (qSee A p.1)
  else if 25 ≤ tkK A p.2.1 ∧ tkK A p.2.1 ≤ 28 then pB (pGo A p.2) (qLwS A p.1 (tkK A p.2.1 - 25))
  else pErr A 1 p.2.1
theorem pB_a {α β γ : Type} (y : zPR α) (f : α → zPR β) (g : β → zPR γ) : pB (pB y f) g = pB y (fun a => pB (f a) g) := by cases y <;> rfl
theorem pB_o {α β : Type} (a : α) (f : α → zPR β) : pB (.ok a) f = f a := rfl
def qEnd (A : List zTk) (r : zPX) : zPR zPX := pB (pMust A 4 r.2) (fun q => .ok (r.1, q))
theorem pStm_q (A : List zTk) (p : zPX) : pStm A p = pB (qStm A p) (qEnd A) := by
  unfold pStm qStm
  by_cases h0 : tkK A p.2.1 = 20
  · rw [if_pos h0, if_pos h0, pB_a]
    congr 1
    funext q
    simp only [pCor, qCor, pStr, qStr, qSt2, qSt3, pYou, qYou, qYo2, qYo3, qYo4, pWor, qWor, qWo2, pLig, qLig, pDra, qDra, pSee, qSee, pLwS, qLwS, pB_a, pB_o, qEnd]
  rw [if_neg h0, if_neg h0]
  by_cases h1 : tkK A p.2.1 = 21
  · rw [if_pos h1, if_pos h1, pB_a]
    congr 1
    funext q
    simp only [pCor, qCor, pStr, qStr, qSt2, qSt3, pYou, qYou, qYo2, qYo3, qYo4, pWor, qWor, qWo2, pLig, qLig, pDra, qDra, pSee, qSee, pLwS, qLwS, pB_a, pB_o, qEnd]
  rw [if_neg h1, if_neg h1]
  by_cases h2 : tkK A p.2.1 = 22
  · rw [if_pos h2, if_pos h2, pB_a]
    congr 1
    funext q
    simp only [pCor, qCor, pStr, qStr, qSt2, qSt3, pYou, qYou, qYo2, qYo3, qYo4, pWor, qWor, qWo2, pLig, qLig, pDra, qDra, pSee, qSee, pLwS, qLwS, pB_a, pB_o, qEnd]
  rw [if_neg h2, if_neg h2]
  by_cases h3 : tkK A p.2.1 = 23
  · rw [if_pos h3, if_pos h3, pB_a]
    congr 1
    funext q
    simp only [pCor, qCor, pStr, qStr, qSt2, qSt3, pYou, qYou, qYo2, qYo3, qYo4, pWor, qWor, qWo2, pLig, qLig, pDra, qDra, pSee, qSee, pLwS, qLwS, pB_a, pB_o, qEnd]
  rw [if_neg h3, if_neg h3]
  by_cases h4 : tkK A p.2.1 = 24
  · rw [if_pos h4, if_pos h4, pB_a]
    congr 1
    funext q
    simp only [pCor, qCor, pStr, qStr, qSt2, qSt3, pYou, qYou, qYo2, qYo3, qYo4, pWor, qWor, qWo2, pLig, qLig, pDra, qDra, pSee, qSee, pLwS, qLwS, pB_a, pB_o, qEnd]
  rw [if_neg h4, if_neg h4]
  by_cases h5 : tkK A p.2.1 = 29
  · rw [if_pos h5, if_pos h5, pB_a]
    congr 1
    funext q
    simp only [pCor, qCor, pStr, qStr, qSt2, qSt3, pYou, qYou, qYo2, qYo3, qYo4, pWor, qWor, qWo2, pLig, qLig, pDra, qDra, pSee, qSee, pLwS, qLwS, pB_a, pB_o, qEnd]
  rw [if_neg h5, if_neg h5]
  by_cases h6 : tkK A p.2.1 = 30
  · rw [if_pos h6, if_pos h6, pB_a]
    congr 1
    funext q
    simp only [pCor, qCor, pStr, qStr, qSt2, qSt3, pYou, qYou, qYo2, qYo3, qYo4, pWor, qWor, qWo2, pLig, qLig, pDra, qDra, pSee, qSee, pLwS, qLwS, pB_a, pB_o, qEnd]
  rw [if_neg h6, if_neg h6]
  by_cases h7 : 25 ≤ tkK A p.2.1 ∧ tkK A p.2.1 ≤ 28
  · rw [if_pos h7, if_pos h7, pB_a]
    congr 1
    funext q
    simp only [pCor, qCor, pStr, qStr, qSt2, qSt3, pYou, qYou, qYo2, qYo3, qYo4, pWor, qWor, qWo2, pLig, qLig, pDra, qDra, pSee, qSee, pLwS, qLwS, pB_a, pB_o, qEnd]
  rw [if_neg h7, if_neg h7]
  rfl
section FH
variable {A : List zTk} {q : zCu}
theorem nme_ok {has : List Nat → Bool} {q2 : zCu} (h : pName A has q = .ok q2) : q2.1 = q.1 + 1 ∧ q.1 ≠ 400 := by
  unfold pName at h
  cases hm : pMust A 1 q with
  | error e => rw [hm] at h; cases h
  | ok q' =>
    obtain ⟨e, -, h4⟩ := cMust_ok hm
    rw [hm] at h
    cases h
    exact ⟨by rw [e], h4⟩
theorem kn_ok {kn : List Nat → Option Nat} {v : Option Nat} {q2 : zCu} (h : pKn A kn q = .ok (v, q2)) : q2.1 = q.1 + 1 ∧ q.1 ≠ 400 := by
  unfold pKn at h
  cases hm : pMust A 1 q with
  | error e => rw [hm] at h; cases h
  | ok q' =>
    obtain ⟨e, -, h4⟩ := cMust_ok hm
    rw [hm] at h
    have h : (match kn (tkN A q.1) with
      | some c => (.ok (some c, q') : zPR (Option Nat × zCu))
      | none => .ok (none, q'.1, pTell 4 q.1 q'.2)) = .ok (v, q2) := h
    split at h
    · cases h; exact ⟨by rw [e], h4⟩
    · cases h; exact ⟨by rw [e], h4⟩
theorem num_ok {lo hi v : Nat} {q2 : zCu} (h : pNum A lo hi q = .ok (v, q2)) : q2.1 = q.1 + 1 ∧ q.1 ≠ 400 := by
  unfold pNum at h
  split at h
  · cases hm : pGo A q with
    | error e => rw [hm] at h; cases h
    | ok q' =>
      obtain ⟨e, h4⟩ := cGo_ok hm
      rw [hm] at h
      cases h
      exact ⟨by rw [e], h4⟩
  · cases h
theorem open_ok {n m : Nat} {q2 : zCu} (h : pOpen A n m q = .ok q2) : q2 = (q.1 + 1, q.2) ∧ q.1 ≠ 400 ∧ n ≠ m := by
  unfold pOpen at h
  split at h
  · cases h
  · obtain ⟨e, h4⟩ := cGo_ok h; exact ⟨e, h4, by assumption⟩
theorem mx1 {α β : Type} {n : Nat} {y : zPR α} {g : α → zPR (β × zCu)} (hq : n ≤ 401) (h : ∀ a, y = .ok a → n ≤ mx (g a)) : n ≤ mx (pB y g) := by
  cases y with
  | error e => exact hq
  | ok a => exact h a rfl
theorem tsw_at {Ks : List zK} {Kd K : zK} {w : Nat} {ls : List (Option Value)} {r : List Value} {X : zX} {k n : Nat} (hw : w < 1000) (hl : Ks.length < 1000) (hK : Ks[w]? = some K) (h : K ls r X k n) : oTsw 0 Ks Kd ls (.int (nI w) :: r) X k n := by
  refine zswg (lo := 0) (by omega) hl (fun i K' hi hx => ?_) (fun hq => ?_)
  · have hi' : i < Ks.length := (List.getElem?_eq_some_iff.mp hi).1
    rw [nI_eq (by omega) (by omega)] at hx
    have : i = w := by omega
    subst this
    rw [hK] at hi
    cases hi
    exact h
  · have hw' : w < Ks.length := (List.getElem?_eq_some_iff.mp hK).1
    exact absurd rfl (hq w (by omega) (by omega))
theorem tsw_out {Ks : List zK} {Kd : zK} {x : Int32} {ls : List (Option Value)} {r : List Value} {X : zX} {k n : Nat} (hl : Ks.length < 1000) (hx : ∀ w, w < Ks.length → x ≠ nI w) (h : Kd ls r X k n) : oTsw 0 Ks Kd ls (.int x :: r) X k n := by
  refine zswg (lo := 0) (by omega) hl (fun i K' hi hx' => ?_) (fun _ => h)
  have hi' : i < Ks.length := (List.getElem?_eq_some_iff.mp hi).1
  rw [Nat.zero_add] at hx'
  exact absurd hx' (hx i hi')
theorem pG.lo {c z ta : Nat} {h : Nat → Option zSh} {S : Nat → Nat → Int32} {L : Nat → Nat → Int64} {X : zX} (g : pG c (z, h, S, L) X) (ht : ta ≤ z) : pG c (ta, h, S, L) X := ⟨Nat.le_trans ht g.1, fun a ha => g.2 a (Nat.lt_of_lt_of_le ha ht)⟩
theorem xn_add {x : zTx} : (∀ w j, j < 4 → xn (addC x w) j = if j = 0 then xn x 0 + 1 else xn x j) ∧ (∀ w j, j < 4 → xn (addS x w) j = if j = 1 then xn x 1 + 1 else xn x j) ∧ (∀ w j, j < 4 → xn (addY x w) j = if j = 2 then xn x 2 + 1 else xn x j) ∧ ∀ w j, j < 4 → xn (addW x w) j = if j = 3 then xn x 3 + 1 else xn x j := by
  refine ⟨fun w j hj => ?_, fun w j hj => ?_, fun w j hj => ?_, fun w j hj => ?_⟩ <;>
  · have : j = 0 ∨ j = 1 ∨ j = 2 ∨ j = 3 := by omega
    rcases this with rfl | rfl | rfl | rfl <;> simp [xn, addC, addS, addY, addW, xC, xS, xY, xW]
end FH
