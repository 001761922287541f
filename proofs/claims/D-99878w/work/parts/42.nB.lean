/-! reading: what is told; the pure side, streets, young ones -/
abbrev zTx : Type := List (List Nat) × List (Int32 × Int32 × Nat) × List (List Nat × Nat × Nat × Int32) × List (List Nat × Nat) × (Int32 × Nat × Nat) × (Nat → List zBr3)
def xC (x : zTx) : List (List Nat) := x.1
def xS (x : zTx) : List (Int32 × Int32 × Nat) := x.2.1
def xY (x : zTx) : List (List Nat × Nat × Nat × Int32) := x.2.2.1
def xW (x : zTx) : List (List Nat × Nat) := x.2.2.2.1
def xG (x : zTx) : Int32 × Nat × Nat := x.2.2.2.2.1
def xA (x : zTx) : Nat → List zBr3 := x.2.2.2.2.2
def x0 : zTx := ([], [], [], [], (nI 0, 0, 0), fun _ => [])
def xHas (x : zTx) (w : List Nat) : Bool := decide (w ∈ xC x ∨ w ∈ (xY x).map (fun y => y.1) ∨ w ∈ (xW x).map (fun y => y.1))
def xKn (x : zTx) (w : List Nat) : Option Nat := firstF (fun k => decide ((xC x).getD k [] = w)) (xC x).length
def s0 : Int32 × Int32 × Nat := (0, 0, 0)
def y0 : List Nat × Nat × Nat × Int32 := ([], 0, 0, 0)
def w0 : List Nat × Nat := ([], 0)
abbrev zPX : Type := zTx × zCu
def pOpen (A : List zTk) (n m : Nat) (q : zCu) : zPR zCu := if n = m then pErr A 2 q.1 else pGo A q
def addC (x : zTx) (w : List Nat) : zTx := (xC x ++ [w], xS x, xY x, xW x, xG x, xA x)
def addS (x : zTx) (s : Int32 × Int32 × Nat) : zTx := (xC x, xS x ++ [s], xY x, xW x, xG x, xA x)
def addY (x : zTx) (y : List Nat × Nat × Nat × Int32) : zTx := (xC x, xS x, xY x ++ [y], xW x, xG x, xA x)
def addW (x : zTx) (w : List Nat × Nat) : zTx := (xC x, xS x, xY x, xW x ++ [w], xG x, xA x)
def setG (x : zTx) (g : Int32 × Nat × Nat) : zTx := (xC x, xS x, xY x, xW x, g, xA x)
def setA (x : zTx) (k : Nat) (a : List zBr3) : zTx := (xC x, xS x, xY x, xW x, xG x, fun j => if j = k then a else xA x j)
def pCor (A : List zTk) (x : zTx) (q : zCu) : zPR zPX := pB (pName A (xHas x) q) (fun q2 => pB (pMust A 4 q2) (fun q3 => .ok (addC x (tkN A q.1), q3)))
def pStr (A : List zTk) (x : zTx) (q : zCu) : zPR zPX := pB (pKn A (xKn x) q) (fun r1 => pB (pKn A (xKn x) r1.2) (fun r2 => pB (pNum A 1 99 (r2.2.1, if r1.1.isSome = true ∧ r1.1 = r2.1 then pTell 3 r1.2.1 r2.2.2 else r2.2.2)) (fun r3 => pB (pMust A 4 r3.2) (fun q4 => .ok (addS x (oM r1.1, oM r2.1, r3.1), q4)))))
def pYou (A : List zTk) (x : zTx) (q : zCu) : zPR zPX := pB (pName A (xHas x) q) (fun q2 => pB (pNum A 10 40 q2) (fun r3 => pB (pNum A 0 9 r3.2) (fun r4 => pB (pKn A (xKn x) r4.2) (fun r5 => pB (pMust A 4 r5.2) (fun q6 => .ok (addY x (tkN A q.1, r3.1, r4.1, oM r5.1), q6))))))
def pWor (A : List zTk) (x : zTx) (q : zCu) : zPR zPX := pB (pName A (xHas x) q) (fun q2 => pB (pNum A 0 99 q2) (fun r3 => pB (pMust A 4 r3.2) (fun q6 => .ok (addW x (tkN A q.1, r3.1), q6))))
def pLig (A : List zTk) (x : zTx) (q : zCu) : zPR zPX := pB (pKn A (xKn x) q) (fun r => pB (pMust A 4 r.2) (fun q2 => .ok (setG x (oM r.1, (xG x).2), q2)))
def pDra (A : List zTk) (x : zTx) (q : zCu) : zPR zPX := pB (pNum A 0 100 q) (fun r => pB (pMust A 4 r.2) (fun q2 => .ok (setG x ((xG x).1, r.1, (xG x).2.2), q2)))
def pSee (A : List zTk) (x : zTx) (q : zCu) : zPR zPX := pB (pNum A 0 9999 q) (fun r => pB (pMust A 4 r.2) (fun q2 => .ok (setG x ((xG x).1, (xG x).2.1, r.1), q2)))
def pLst (A : List zTk) (acc : List zBr3) (q : zCu) : zPR (List zBr3 × zCu) := pB (rdX A 6 q) (fun r => .ok (acc ++ [(false, [], [], r.1)], r.2))
def pLwL (A : List zTk) : Nat → List zBr3 → zCu → zPR (List zBr3 × zCu)
  | 0, acc, q => if tkK A q.1 = 31 then pErr A 2 q.1 else pLst A acc q
  | f + 1, acc, q => if tkK A q.1 = 31 then pB (pGo A q) (fun q1 => pB (rdX A 6 q1) (fun r1 => pB (pMust A 13 r1.2) (fun q2 => pB (rdX A 6 q2) (fun r2 => pB (pMust A 32 r2.2) (fun q3 => pB (rdX A 6 q3) (fun r3 => pB (pMust A 33 r3.2) (fun q4 => pLwL A f (acc ++ [(true, r1.1, r2.1, r3.1)]) q4))))))) else pLst A acc q
def pLaw (A : List zTk) (q : zCu) : zPR (List zBr3 × zCu) := pB (pMust A 5 q) (pLwL A 4 [])
def pLwS (A : List zTk) (x : zTx) (k : Nat) (q : zCu) : zPR zPX := pB (pLaw A q) (fun r => pB (pMust A 4 r.2) (fun q2 => .ok (setA x k r.1, q2)))
def pStm (A : List zTk) (p : zPX) : zPR zPX :=
  if tkK A p.2.1 = 20 then pB (pOpen A (xC p.1).length 7 p.2) (pCor A p.1)
  else if tkK A p.2.1 = 21 then pB (pOpen A (xS p.1).length 10 p.2) (pStr A p.1)
  else if tkK A p.2.1 = 22 then pB (pOpen A (xY p.1).length 6 p.2) (pYou A p.1)
  else if tkK A p.2.1 = 23 then pB (pOpen A (xW p.1).length 5 p.2) (pWor A p.1)
  else if tkK A p.2.1 = 24 then pB (pGo A p.2) (pLig A p.1)
  else if tkK A p.2.1 = 29 then pB (pGo A p.2) (pDra A p.1)
  else if tkK A p.2.1 = 30 then pB (pGo A p.2) (pSee A p.1)
  else if 25 ≤ tkK A p.2.1 ∧ tkK A p.2.1 ≤ 28 then pB (pGo A p.2) (pLwS A p.1 (tkK A p.2.1 - 25))
  else pErr A 1 p.2.1
def pRd (A : List zTk) : Nat → zPX → zPR zPX
  | 0, p => .ok p
  | f + 1, p => if tkK A p.2.1 = 0 then .ok p else pB (pStm A p) (pRd A f)
def pEnd (A : List zTk) (p : zPX) : zPR zTx := if p.2.2.1 = 0 then .ok p.1 else .error (p.2.2.1, tkP A p.2.2.2)
/-- what a text tells, or what is wrong with it -/
def pTxt (P : List Int32) : zPR zTx := pB (pRd (tkA P) 401 (x0, 0, 0, 0)) (pEnd (tkA P))
/-- the width of a side in row o -/
def wd (o : Nat) : Nat := if o ≤ 11 then 1 else if o ≤ 14 then 10 else if o = 15 then 1 else if o ≤ 18 then 6 else if o = 19 then 1 else if o = 20 then 5 else if o ≤ 23 then 1 else if o ≤ 25 then 4 else if o ≤ 30 then 130 else 420
/-- the side lv is as it was -/
def sdE (b lv : Nat) (S S' : Nat → Nat → Int32) : Prop := ∀ o, 10 ≤ o → o ≤ 32 → ∀ j, wd o * lv ≤ j → j < wd o * lv + wd o → S' (b + o) j = S (b + o) j
theorem sdE.rf {b lv : Nat} {S : Nat → Nat → Int32} : sdE b lv S S := fun _ _ _ _ _ _ => rfl
theorem sdE.tr {b lv : Nat} {S S' S'' : Nat → Nat → Int32} (h : sdE b lv S S') (h' : sdE b lv S' S'') : sdE b lv S S'' := fun o h1 h2 j h3 h4 => (h' o h1 h2 j h3 h4).trans (h o h1 h2 j h3 h4)
theorem sdE.fr {b lv : Nat} {S S' : Nat → Nat → Int32} {D F : List Nat} (hf : zfr D F b S S') (hD : D.all (fun x => decide (x < 10 ∨ 32 < x)) = true) : sdE b lv S S' := by
  intro o h1 h2 j _ _
  rw [hf.1 (b + o) (by omega) (fun x hx => by have := List.all_eq_true.mp hD x hx; simp at this; omega)]
theorem sdE.row {b sd o k : Nat} {v : Int32} {S : Nat → Nat → Int32} (hsd : sd < 2) (hk : wd o * sd ≤ k) (hk2 : k < wd o * sd + wd o) : sdE b (1 - sd) S (zu S (b + o) k v) := by
  intro o2 h1 h2 j h3 h4
  by_cases he : o2 = o
  · subst he
    have hne : j ≠ k := by
      intro e
      subst e
      have : sd = 0 ∨ sd = 1 := by omega
      rcases this with rfl | rfl
      · simp at *; omega
      · simp at *; omega
    rw [zu_ix _ _ hne]
  · rw [zu_rw _ _ (by omega)]
theorem sdE.ex {b sd c0 : Nat} {S S' : Nat → Nat → Int32} (hsd : sd < 2) (hc : 420 * sd ≤ c0) (hx : exF b S S' c0 sd) : sdE b (1 - sd) S S' := by
  intro o h1 h2 j h3 h4
  by_cases h31 : o = 31 ∨ o = 32
  · have hw : wd o = 420 := by rcases h31 with rfl | rfl <;> rfl
    rw [hw] at h3 h4
    have hj : j < c0 ∨ 420 * sd + 420 ≤ j := by
      have : sd = 0 ∨ sd = 1 := by omega
      rcases this with rfl | rfl
      · right; simp at h3; omega
      · left; simp at h4; omega
    rcases h31 with rfl | rfl
    · exact (hx.2 j hj).1
    · exact (hx.2 j hj).2
  · rw [hx.1.1 (b + o) (by omega) (fun x hx => by simp at hx; omega)]
/-- the side sd holds what is told so far, but for the laws -/
def mB (b : Nat) (S : Nat → Nat → Int32) (L : Nat → Nat → Int64) (sd : Nat) (x : zTx) : Prop :=
  ((S b 19 = nI sd ∧ sd < 2) ∧ (S (b + 10) sd = nI (xC x).length ∧ (xC x).length ≤ 7) ∧ (S (b + 11) sd = nI (xS x).length ∧ (xS x).length ≤ 10) ∧ (S (b + 15) sd = nI (xY x).length ∧ (xY x).length ≤ 6) ∧ (S (b + 19) sd = nI (xW x).length ∧ (xW x).length ≤ 5)) ∧
  (∀ s, s < (xS x).length → S (b + 12) (10 * sd + s) = ((xS x).getD s s0).1 ∧ S (b + 13) (10 * sd + s) = ((xS x).getD s s0).2.1 ∧ S (b + 14) (10 * sd + s) = nI ((xS x).getD s s0).2.2) ∧
  (∀ y, y < (xY x).length → S (b + 16) (6 * sd + y) = nI ((xY x).getD y y0).2.1 ∧ S (b + 17) (6 * sd + y) = nI ((xY x).getD y y0).2.2.1 ∧ S (b + 18) (6 * sd + y) = ((xY x).getD y y0).2.2.2) ∧
  (∀ w, w < (xW x).length → S (b + 20) (5 * sd + w) = nI ((xW x).getD w w0).2) ∧
  (S (b + 21) sd = (xG x).1 ∧ S (b + 22) sd = nI (xG x).2.1 ∧ S (b + 23) sd = nI (xG x).2.2) ∧
  ∃ N, mNm b S L N ∧ N.length = (xC x).length + (xY x).length + (xW x).length ∧ (∀ w, hasN N w N.length = xHas x w) ∧ ∀ w, ixK N w N.length = xKn x w
theorem mB.fr {b sd : Nat} {S S' : Nat → Nat → Int32} {L : Nat → Nat → Int64} {x : zTx} {D F : List Nat} (h : mB b S L sd x) (hf : zfr D F b S S') (hD : D.all (fun x => decide (x < 9 ∨ 23 < x)) = true) (h19 : F.all (fun x => !(x == 19)) = true) (h20 : F.all (fun x => !(x == 20)) = true) : mB b S' L sd x := by
  have e : ∀ o, 9 ≤ o → o ≤ 23 → S' (b + o) = S (b + o) := fun o h1 h2 => hf.1 (b + o) (by omega) (fun x hx => by have := List.all_eq_true.mp hD x hx; simp at this; omega)
  unfold mB mNm
  rw [e 9 (by omega) (by omega), e 10 (by omega) (by omega), e 11 (by omega) (by omega), e 12 (by omega) (by omega), e 13 (by omega) (by omega), e 14 (by omega) (by omega), e 15 (by omega) (by omega), e 16 (by omega) (by omega), e 17 (by omega) (by omega), e 18 (by omega) (by omega), e 19 (by omega) (by omega), e 20 (by omega) (by omega), e 21 (by omega) (by omega), e 22 (by omega) (by omega), e 23 (by omega) (by omega), hf.f h19, hf.f h20]
  exact h
theorem hasN_snoc {N : List (List Nat × Nat)} {v : List Nat × Nat} {w : List Nat} : hasN (N ++ [v]) w (N ++ [v]).length = (hasN N w N.length || decide (v.1 = w)) := by
  have key : ∀ k, k ≤ N.length → hasN (N ++ [v]) w k = hasN N w k := by
    intro k
    induction k with
    | zero => intro _; rfl
    | succ k ih =>
      intro hk
      rw [hasN, hasN, ih (by omega), getD_snocN, if_neg (by omega), if_pos (by omega)]
  rw [List.length_append, List.length_cons, List.length_nil, hasN, key _ (Nat.le_refl _), getD_snocN, if_pos rfl]
theorem ixK_snoc {N : List (List Nat × Nat)} {v : List Nat × Nat} {w : List Nat} : ixK (N ++ [v]) w (N ++ [v]).length = match ixK N w N.length with
    | some c => some c
    | none => if v.1 = w ∧ v.2 < 10 then some v.2 else none := by
  have key : ∀ k, k ≤ N.length → ixK (N ++ [v]) w k = ixK N w k := by
    intro k
    induction k with
    | zero => intro _; rfl
    | succ k ih =>
      intro hk
      have e : (N ++ [v]).getD k nm0 = N.getD k nm0 := by rw [getD_snocN, if_neg (by omega), if_pos (by omega)]
      rw [ixK, ixK, ih (by omega), e]
  rw [List.length_append, List.length_cons, List.length_nil, ixK, key _ (Nat.le_refl _), getD_snocN, if_pos rfl]
  cases ixK N w N.length <;> rfl
theorem firstF_congr {p q : Nat → Bool} : ∀ n, (∀ k, k < n → p k = q k) → firstF p n = firstF q n
  | 0, _ => rfl
  | n + 1, h => by rw [firstF, firstF, firstF_congr n (fun k hk => h k (by omega)), h n (by omega)]
theorem xKn_addC {x : zTx} {v w : List Nat} : xKn (addC x v) w = match xKn x w with
    | some c => some c
    | none => if v = w then some (xC x).length else none := by
  unfold xKn addC
  show firstF (fun k => decide ((xC x ++ [v]).getD k [] = w)) (xC x ++ [v]).length = _
  rw [List.length_append, List.length_cons, List.length_nil, firstF, firstF_congr _ (q := fun k => decide ((xC x).getD k [] = w)) (fun k hk => by rw [getD_snoc, if_neg (by omega), if_pos hk]), getD_snoc, if_pos rfl]
  cases firstF (fun k => decide ((xC x).getD k [] = w)) (xC x).length with
  | some c => rfl
  | none => simp
section NB
variable {l : Launch} {E : zE} {b z : Nat} {h : Nat → Option zSh} {S : Nat → Nat → Int32} {L : Nat → Nat → Int64} {A : List zTk} {sd : Nat} {x : zTx}
theorem getD_snS (v : Int32 × Int32 × Nat) (a : List (Int32 × Int32 × Nat)) (i : Nat) : (a ++ [v]).getD i s0 = if i = a.length then v else if i < a.length then a.getD i s0 else s0 := getD_snoc a v s0 i
theorem zu_rowj {α : Type} (S : Nat → Nat → α) (a k : Nat) (v : α) (j : Nat) : zu S a k v a j = if j = k then v else S a j := by simp [zu]
/-- what telling may change -/
def mF (b sd : Nat) (S S' : Nat → Nat → Int32) : Prop := zfr [9, 10, 11, 12, 13, 14, 15, 16, 17, 18, 19, 20, 21, 22, 23, 24, 25, 26, 27, 28, 29, 30, 31, 32, 33] [11, 12, 13, 14, 15, 16, 20, 39, 45, 49] b S S' ∧ sdE b (1 - sd) S S'
theorem mF.rf : mF b sd S S := ⟨zfr.rf, sdE.rf⟩
theorem mF.tr {S' S'' : Nat → Nat → Int32} (h1 : mF b sd S S') (h2 : mF b sd S' S'') : mF b sd S S'' := ⟨h1.1.tt h2.1, h1.2.tr h2.2⟩
theorem mF.of {S' : Nat → Nat → Int32} {D F : List Nat} (hf : zfr D F b S S') (hD : D.all (fun x => decide (x = 9 ∨ x = 33)) = true) (hF : F.all (fun x => [11, 12, 13, 14, 15, 16, 20, 39, 45, 49].contains x) = true) : mF b sd S S' := by
  have hD' : ∀ x ∈ D, x = 9 ∨ x = 33 := fun x hx => by simpa using List.all_eq_true.mp hD x hx
  refine ⟨?_, sdE.fr hf ?_⟩
  · refine hf.tr zfr.rf ?_ hF (D' := []) (F' := []) rfl rfl
    rw [List.all_eq_true]; intro x hx; rcases hD' x hx with rfl | rfl <;> rfl
  · rw [List.all_eq_true]; intro x hx; rcases hD' x hx with rfl | rfl <;> rfl
theorem mF.row {S' : Nat → Nat → Int32} {o k : Nat} {v : Int32} (h : mF b sd S S') (hsd : sd < 2) (w : Nat) (hw : wd o = w) (ho : o ∈ [10, 11, 12, 13, 14, 15, 16, 17, 18, 19, 20, 21, 22, 23, 24, 25, 26, 27, 28, 29, 30]) (hk : w * sd ≤ k) (hk2 : k < w * sd + w) : mF b sd S (zu S' (b + o) k v) := by
  subst hw
  refine ⟨h.1.row ?_ ?_, h.2.tr (sdE.row hsd hk hk2)⟩
  · simp at ho ⊢; omega
  · simp at ho; omega
theorem mF.go {S' S'' : Nat → Nat → Int32} {D F : List Nat} (h : mF b sd S S') (hf : zfr D F b S' S'') (hD : D.all (fun x => decide (x = 9 ∨ x = 33)) = true) (hF : F.all (fun x => [11, 12, 13, 14, 15, 16, 20, 39, 45, 49].contains x) = true) : mF b sd S S'' := h.tr (mF.of hf hD hF)
theorem mC.row {st : zPR zCu} {o k : Nat} {v : Int32} (hC : mC b S L A st) (ho : 5 < o) : mC b (zu S (b + o) k v) L A st := hC.frL (D := [o]) (F := []) (zfr.rf.row (List.mem_singleton.mpr rfl) (by omega)) (by simp; omega) rfl (fun _ _ => rfl)
theorem mNm.row {N : List (List Nat × Nat)} {o k : Nat} {v : Int32} (hN : mNm b S L N) (ho : 9 < o) : mNm b (zu S (b + o) k v) L N := hN.fr (D := [o]) (F := []) (zfr.rf.row (List.mem_singleton.mpr rfl) (by omega)) (by simp; omega) rfl
theorem pV_as {α : Type} (y : zPR zCu) (f : zCu → zPR (α × zCu)) : pV (pB y f) = pB y (fun q => pV (f q)) := by cases y <;> rfl
theorem pKn_inv {kn : List Nat → Option Nat} {q q' : zCu} {c : Option Nat} (h : pKn A kn q = .ok (c, q')) : kn (tkN A q.1) = c ∧ tkK A q.1 = 1 ∧ ¬ q.1 = 400 ∧ q'.1 = q.1 + 1 := by
  obtain ⟨q1, hm, h⟩ := pB_inv h
  obtain ⟨h1, rfl, h4⟩ := pMust_inv hm
  cases hk : kn (tkN A q.1) with
  | none => rw [hk] at h; cases h; exact ⟨rfl, h1, h4, rfl⟩
  | some c1 => rw [hk] at h; cases h; exact ⟨rfl, h1, h4, rfl⟩
theorem zX10_tellStreet (hM : isM h b) (hA : tkW A) {q : zCu} (hC : mC b S L A (.ok q)) (hB : mB b S L sd x) (hl : (xS x).length < 10) :
    zM l E 4 YX10_tellStreet [.ref b] (z, h, S, L) 0 0 (fun r X => r = none ∧ ∃ S', X = (z, h, S', L) ∧ mF b sd S S' ∧ zfr [11, 12, 13, 14] [11, 13, 14, 15, 16] b S S' ∧ mC b S' L A (pV (pStr A x q)) ∧ ∀ x' q', pStr A x q = .ok (x', q') → mB b S' L sd x') (fun _ _ => False) := by
  obtain ⟨⟨⟨h19, hsd⟩, ⟨h10, hc7⟩, ⟨h11, hs10⟩, ⟨h15, hy6⟩, ⟨h19w, hw5⟩⟩, hSS, hYY, hWW, hGG, N, hN, hNl, hNh, hNk⟩ := id hB
  refine zM.go rfl rfl (Nat.le_of_ble_eq_true rfl) (ls := [some (.ref b), none, none]) rfl ?_
  intro V hVl hVE hVd hVc hVs hVQ hVX
  obtain ⟨k, hk⟩ : ∃ k, k = 10 * sd + (xS x).length := ⟨_, rfl⟩
  have hw10 : wd 11 = 1 ∧ wd 12 = 10 ∧ wd 13 = 10 ∧ wd 14 = 10 := by decide
  have tail : ∀ (S3 : Nat → Nat → Int32) (st3 : zPR zCu) (o1 o2 : Int32) (x2 : Option Value), mF b sd S S3 → zfr [12, 13] [11, 13, 14, 15, 16] b S S3 → mC b S3 L A st3 → (∀ q, st3 = .ok q → (∀ j, S3 (b + 12) j = if j = k then o1 else S (b + 12) j) ∧ ∀ j, S3 (b + 13) j = if j = k then o2 else S (b + 13) j) → pStr A x q = pB st3 (fun q => pB (pNum A 1 99 q) (fun r3 => pB (pMust A 4 r3.2) (fun q4 => .ok (addS x (o1, o2, r3.1), q4)))) → zW V YX10_tellStreet 80 [some (.ref b), some (.int (nI k)), x2] [] (z, h, S3, L) 0 0 := by
    intro S3 st3 o1 o2 x2 hF3 hf3 hC3 hrow hp
    rw [hp] at hVQ
    refine sX10_tellStreet_80 _ _ _ _ _ ?_
    simp (disch := omega) only [oAld, oCV, oGR, oIld, oPush, hM.1, hM.r27, hM.t27, hM.n27, List.getElem?_cons_zero, List.getElem?_cons_succ, List.set_cons_zero, List.set_cons_succ, List.drop_succ_cons, List.drop_zero, List.take_succ_cons, List.take_zero, List.length_cons, List.length_nil, List.reverse_cons, List.reverse_nil, List.nil_append, List.cons_append, Option.toList_some, Option.toList_none, va_rf_s, true_and, and_true, true_implies, false_implies, not_true_eq_false, not_false_eq_true, Nat.reduceAdd, Nat.reduceLeDiff, Nat.le_add_left, Nat.zero_le, Nat.le_refl, znew, true_or, or_true, b01_t, b01_f, b01_ok, bool_ft, vp_b01, vp_b0, vp_b1, b01_eq0, b01_eq1, implies_true, nI_add, nI_clamp, zi_in, zi_le_t, zi_le_f, zi_lt_t, zi_lt_f, zi_eq_t, zi_eq_f, nI_leI, nI_ltI, nI_eq, z_in, pk_mul, zu_same, zu_rw, zu_ix, zi_ne0, zi_sub, zi_m1, Nat.add_sub_cancel, Nat.reduceMul, Nat.reduceSub]
    refine zC.of0 (zX10_bounded hM hA hC3 (by omega) (by omega)) (by omega) (Nat.zero_le _) (Nat.zero_le _) ?_
    rintro _ _ ⟨S4, v, rfl, rfl, hf4, hC4, hv⟩
    refine sX10_tellStreet_92 _ _ _ _ _ ?_
    simp (disch := omega) only [oAld, oAst1, oCV, oPush, hM.1, hM.t27, hM.n27, List.getElem?_cons_zero, List.getElem?_cons_succ, List.set_cons_zero, List.set_cons_succ, List.drop_succ_cons, List.drop_zero, List.take_succ_cons, List.take_zero, List.length_cons, List.length_nil, List.reverse_cons, List.reverse_nil, List.nil_append, List.cons_append, Option.toList_some, Option.toList_none, va_rf_s, true_and, and_true, true_implies, false_implies, not_true_eq_false, not_false_eq_true, Nat.reduceAdd, Nat.reduceLeDiff, Nat.le_add_left, Nat.zero_le, Nat.le_refl, znew, true_or, or_true, b01_t, b01_f, b01_ok, bool_ft, vp_b01, vp_b0, vp_b1, b01_eq0, b01_eq1, implies_true, nI_add, nI_clamp, zi_in, zi_le_t, zi_le_f, zi_lt_t, zi_lt_f, zi_eq_t, zi_eq_f, nI_leI, nI_ltI, nI_eq, z_in, pk_mul, zu_same, zu_rw, zu_ix, zi_ne0, zi_sub, zi_m1, Nat.add_sub_cancel, Nat.reduceMul, Nat.reduceSub]
    have hC4' := hC4.row (o := 14) (k := k) (v := v) (by omega)
    refine zC.of0 (zX10_must hM hA hC4' (by omega) (by omega)) (by omega) (Nat.zero_le _) (Nat.zero_le _) ?_
    rintro _ _ ⟨rfl, S5, rfl, hf5, hC5⟩
    have hF5 : mF b sd S S5 := ((hF3.go hf4 rfl rfl).row hsd 10 rfl (by decide) (by omega) (by omega)).go hf5 rfl rfl
    have hf5' : zfr [11, 12, 13, 14] [11, 13, 14, 15, 16] b S S5 := (((hf3.tr hf4 rfl rfl rfl rfl (D2 := [12, 13, 14]) (F2 := [11, 13, 14, 15, 16])).row (by decide) (by decide)).tr hf5 rfl rfl rfl rfl)
    rw [pV_as, pB_as] at hC5
    have hfin : pV (pB st3 (fun q => pB (pNum A 1 99 q) (fun r3 => pB (pMust A 4 r3.2) (fun q4 => .ok (addS x (o1, o2, r3.1), q4))))) = pB st3 (fun a => pB (pV (pNum A 1 99 a)) (pMust A 4)) := by
      cases st3 with
      | error e => rfl
      | ok q3 =>
        rw [pB_ok, pB_ok]
        cases pNum A 1 99 q3 with
        | error e => rfl
        | ok r =>
          show pV (pB (pMust A 4 r.2) _) = pMust A 4 r.2
          cases pMust A 4 r.2 <;> rfl
    rw [← hfin] at hC5
    cases hr : pB st3 (fun q => pB (pNum A 1 99 q) (fun r3 => pB (pMust A 4 r3.2) (fun q4 => .ok (addS x (o1, o2, r3.1), q4)))) with
    | error e =>
      rw [hr] at hC5 hVQ
      obtain ⟨n, h13, hn, hn5⟩ := mC.bad (e := e) hC5
      refine sX10_tellStreet_98 _ _ _ _ _ ?_
      simp (disch := omega) only [oAld, oAld1, oAst1, oBin, oDup2, oGI, oGR, oIf, oPush, oRV, hM.1, hM.r24, hM.t24, hM.n24, h13, List.getElem?_cons_zero, List.getElem?_cons_succ, List.set_cons_zero, List.set_cons_succ, List.drop_succ_cons, List.drop_zero, List.take_succ_cons, List.take_zero, List.length_cons, List.length_nil, List.reverse_cons, List.reverse_nil, List.nil_append, List.cons_append, Option.toList_some, Option.toList_none, va_rf_s, true_and, and_true, true_implies, false_implies, not_true_eq_false, not_false_eq_true, Nat.reduceAdd, Nat.reduceLeDiff, Nat.le_add_left, Nat.zero_le, Nat.le_refl, znew, true_or, or_true, b01_t, b01_f, b01_ok, bool_ft, vp_b01, vp_b0, vp_b1, b01_eq0, b01_eq1, implies_true, nI_add, nI_clamp, zi_in, zi_le_t, zi_le_f, zi_lt_t, zi_lt_f, zi_eq_t, zi_eq_f, nI_leI, nI_ltI, nI_eq, z_in, pk_mul, zu_same, zu_rw, zu_ix, zi_ne0, zi_sub, zi_m1, Nat.add_sub_cancel, Nat.reduceMul, Nat.reduceSub]
      exact hVQ _ _ ⟨rfl, S5, rfl, hF5, hf5', hC5, fun x' q' e => by cases e⟩
    | ok r =>
      obtain ⟨x', q'⟩ := r
      rw [hr] at hC5 hVQ
      obtain ⟨q3, hq3, hr⟩ := pB_inv hr
      obtain ⟨⟨n, q5⟩, hn, hr⟩ := pB_inv hr
      obtain ⟨q6, hm, hr⟩ := pB_inv hr
      cases hr
      have hvn : v = nI n := hv n q5 (by rw [hq3]; exact hn)
      obtain ⟨r12, r13⟩ := hrow q3 hq3
      have h13 := mC.good (q := q') hC5
      have h19' : S5 b 19 = nI sd := by rw [hf5'.f rfl]; exact h19
      have hf45 : S5 (b + 11) = S (b + 11) := by rw [hf5.at (o := 11) rfl rfl, zu_rw _ _ (by omega), hf4.at (o := 11) rfl rfl, hf3.at (o := 11) rfl rfl]
      have h11' : S5 (b + 11) sd = nI (xS x).length := by rw [hf45]; exact h11
      have e12 : ∀ j, S5 (b + 12) j = if j = k then o1 else S (b + 12) j := fun j => by rw [hf5.at (o := 12) rfl rfl, zu_rw _ _ (by omega), hf4.at (o := 12) rfl rfl]; exact r12 j
      have e13 : ∀ j, S5 (b + 13) j = if j = k then o2 else S (b + 13) j := fun j => by rw [hf5.at (o := 13) rfl rfl, zu_rw _ _ (by omega), hf4.at (o := 13) rfl rfl]; exact r13 j
      have e14 : ∀ j, S5 (b + 14) j = if j = k then nI n else S (b + 14) j := fun j => by rw [hf5.at (o := 14) rfl rfl, zu_rowj, hf4.at (o := 14) rfl rfl, hf3.at (o := 14) rfl rfl, hvn]
      refine sX10_tellStreet_98 _ _ _ _ _ ?_
      simp (disch := omega) only [oAld, oAld1, oAst1, oBin, oDup2, oGI, oGR, oIf, oPush, oRV, hM.1, hM.r24, hM.t24, hM.n24, h13, h19', h11', List.getElem?_cons_zero, List.getElem?_cons_succ, List.set_cons_zero, List.set_cons_succ, List.drop_succ_cons, List.drop_zero, List.take_succ_cons, List.take_zero, List.length_cons, List.length_nil, List.reverse_cons, List.reverse_nil, List.nil_append, List.cons_append, Option.toList_some, Option.toList_none, va_rf_s, true_and, and_true, true_implies, false_implies, not_true_eq_false, not_false_eq_true, Nat.reduceAdd, Nat.reduceLeDiff, Nat.le_add_left, Nat.zero_le, Nat.le_refl, znew, true_or, or_true, b01_t, b01_f, b01_ok, bool_ft, vp_b01, vp_b0, vp_b1, b01_eq0, b01_eq1, implies_true, nI_add, nI_clamp, zi_in, zi_le_t, zi_le_f, zi_lt_t, zi_lt_f, zi_eq_t, zi_eq_f, nI_leI, nI_ltI, nI_eq, z_in, pk_mul, zu_same, zu_rw, zu_ix, zi_ne0, zi_sub, zi_m1, Nat.add_sub_cancel, Nat.reduceMul, Nat.reduceSub]
      have hff : zfr [11] [] b S5 (zu S5 (b + 11) sd (nI ((xS x).length + 1))) := zfr.rf.row (by decide) (by decide)
      refine hVQ _ _ ⟨rfl, _, rfl, hF5.row hsd 1 rfl (by decide) (by omega) (by omega), hf5'.row (by decide) (by decide), mC.row (st := .ok q') hC5 (by omega), fun x' q' e => ?_⟩
      cases e
      have hfall : zfr [11, 12, 13, 14] [11, 13, 14, 15, 16] b S (zu S5 (b + 11) sd (nI ((xS x).length + 1))) := hf5'.row (by decide) (by decide)
      refine ⟨⟨⟨by rw [hfall.f rfl]; exact h19, hsd⟩, ⟨by rw [hfall.at (o := 10) rfl rfl]; exact h10, hc7⟩, ⟨by rw [zu_same]; show nI ((xS x).length + 1) = nI (xS x ++ [_]).length; rw [List.length_append]; rfl, by show (xS x ++ [_]).length ≤ 10; rw [List.length_append]; simp; omega⟩, ⟨by rw [hfall.at (o := 15) rfl rfl]; exact h15, hy6⟩, ⟨by rw [hfall.at (o := 19) rfl rfl]; exact h19w, hw5⟩⟩, ?_, ?_, ?_, ?_, N, ?_, hNl, hNh, hNk⟩
      · intro s hs
        have hs' : s < (xS x).length + 1 := by
          have : s < (xS x ++ [(o1, o2, n)]).length := hs
          rw [List.length_append] at this; exact this
        rw [hff.at (o := 12) rfl rfl, hff.at (o := 13) rfl rfl, hff.at (o := 14) rfl rfl, e12, e13, e14]
        show _ = ((xS x ++ [(o1, o2, n)]).getD s s0).1 ∧ _ = ((xS x ++ [(o1, o2, n)]).getD s s0).2.1 ∧ _ = nI ((xS x ++ [(o1, o2, n)]).getD s s0).2.2
        rw [getD_snS]
        by_cases he : s = (xS x).length
        · have e1 : 10 * sd + s = k := by omega
          rw [if_pos e1, if_pos e1, if_pos e1, if_pos he]; exact ⟨rfl, rfl, rfl⟩
        · have e1 : ¬ 10 * sd + s = k := by omega
          have e2 : s < (xS x).length := by omega
          rw [if_neg e1, if_neg e1, if_neg e1, if_neg he, if_pos e2]; exact hSS s (by omega)
      · intro y hy
        rw [hfall.at (o := 16) rfl rfl, hfall.at (o := 17) rfl rfl, hfall.at (o := 18) rfl rfl]; exact hYY y hy
      · intro w hw
        rw [hfall.at (o := 20) rfl rfl]; exact hWW w hw
      · rw [hfall.at (o := 21) rfl rfl, hfall.at (o := 22) rfl rfl, hfall.at (o := 23) rfl rfl]; exact hGG
      · exact hN.fr hfall rfl rfl
  refine sX10_tellStreet_0 _ _ _ _ _ ?_
  simp (disch := omega) only [oAld, oAld1, oBin, oCV, oGI, oGR, oIld, oIst, oPush, hM.1, hM.r24, hM.t24, hM.n24, hM.r25, hM.t25, hM.n25, h19, h11, List.getElem?_cons_zero, List.getElem?_cons_succ, List.set_cons_zero, List.set_cons_succ, List.drop_succ_cons, List.drop_zero, List.take_succ_cons, List.take_zero, List.length_cons, List.length_nil, List.reverse_cons, List.reverse_nil, List.nil_append, List.cons_append, Option.toList_some, Option.toList_none, va_rf_s, true_and, and_true, true_implies, false_implies, not_true_eq_false, not_false_eq_true, Nat.reduceAdd, Nat.reduceLeDiff, Nat.le_add_left, Nat.zero_le, Nat.le_refl, znew, true_or, or_true, b01_t, b01_f, b01_ok, bool_ft, vp_b01, vp_b0, vp_b1, b01_eq0, b01_eq1, implies_true, nI_add, nI_clamp, zi_in, zi_le_t, zi_le_f, zi_lt_t, zi_lt_f, zi_eq_t, zi_eq_f, nI_leI, nI_ltI, nI_eq, z_in, pk_mul, zu_same, zu_rw, zu_ix, zi_ne0, zi_sub, zi_m1, Nat.add_sub_cancel, Nat.reduceMul, Nat.reduceSub]
  rw [← hk]
  refine zC.of0 (zX10_known hM hA hC hN hNk) (by omega) (Nat.zero_le _) (Nat.zero_le _) ?_
  rintro _ _ ⟨S1, v1, rfl, rfl, hf1, hC1, hv1⟩
  have hC1' := hC1.row (o := 12) (k := k) (v := v1) (by omega)
  obtain ⟨a, ha, ha4, haq⟩ := hC1'.at_
  have hN1 := (hN.fr hf1 rfl rfl).row (o := 12) (k := k) (v := v1) (by omega)
  refine sX10_tellStreet_27 _ _ _ _ _ ?_
  simp (disch := omega) only [oAld, oAst1, oCV, oGI, oGR, oIld, oIst, hM.1, hM.r26, hM.t26, hM.n26, ha, hM.t25, hM.n25, List.getElem?_cons_zero, List.getElem?_cons_succ, List.set_cons_zero, List.set_cons_succ, List.drop_succ_cons, List.drop_zero, List.take_succ_cons, List.take_zero, List.length_cons, List.length_nil, List.reverse_cons, List.reverse_nil, List.nil_append, List.cons_append, Option.toList_some, Option.toList_none, va_rf_s, true_and, and_true, true_implies, false_implies, not_true_eq_false, not_false_eq_true, Nat.reduceAdd, Nat.reduceLeDiff, Nat.le_add_left, Nat.zero_le, Nat.le_refl, znew, true_or, or_true, b01_t, b01_f, b01_ok, bool_ft, vp_b01, vp_b0, vp_b1, b01_eq0, b01_eq1, implies_true, nI_add, nI_clamp, zi_in, zi_le_t, zi_le_f, zi_lt_t, zi_lt_f, zi_eq_t, zi_eq_f, nI_leI, nI_ltI, nI_eq, z_in, pk_mul, zu_same, zu_rw, zu_ix, zi_ne0, zi_sub, zi_m1, Nat.add_sub_cancel, Nat.reduceMul, Nat.reduceSub]
  refine zC.of0 (zX10_known hM hA hC1' hN1 hNk) (by omega) (Nat.zero_le _) (Nat.zero_le _) ?_
  rintro _ _ ⟨S2, v2, rfl, rfl, hf2, hC2, hv2⟩
  have hC2' := hC2.row (o := 13) (k := k) (v := v2) (by omega)
  have hF2 : mF b sd S (zu S2 (b + 13) k v2) := (((mF.of hf1 rfl rfl).row hsd 10 rfl (by decide) (by omega) (by omega)).go hf2 rfl rfl).row hsd 10 rfl (by decide) (by omega) (by omega)
  have hf2' : zfr [12, 13] [11, 13, 14, 15, 16] b S (zu S2 (b + 13) k v2) := ((((hf1.tr zfr.rf rfl rfl (D' := []) (F' := []) (D2 := [12, 13]) (F2 := [11, 13, 14, 15, 16]) rfl rfl).row (by decide) (by decide)).tr hf2 rfl rfl rfl rfl).row (by decide) (by decide))
  have e12 : ∀ j, zu S2 (b + 13) k v2 (b + 12) j = if j = k then v1 else S (b + 12) j := fun j => by
    rw [zu_rw _ _ (by omega), hf2.at (o := 12) rfl rfl, zu_rowj, hf1.at (o := 12) rfl rfl]
  have e13 : ∀ j, zu S2 (b + 13) k v2 (b + 13) j = if j = k then v2 else S (b + 13) j := fun j => by
    rw [zu_rowj, hf2.at (o := 13) rfl rfl, zu_rw _ _ (by omega), hf1.at (o := 13) rfl rfl]
  have e12k : zu S2 (b + 13) k v2 (b + 12) k = v1 := by rw [e12, if_pos rfl]
  have e13k : zu S2 (b + 13) k v2 (b + 13) k = v2 := by rw [e13, if_pos rfl]
  generalize hS3 : zu S2 (b + 13) k v2 = S3 at *
  rw [pB_ok] at hC1 hC1' hv1
  have e12s : S2 (b + 12) k = v1 := by rw [hf2.at (o := 12) rfl rfl, zu_same]
  rw [pB_ok] at hC2 hC2' hv2
  cases hp1 : pKn A (xKn x) q with
  | error e =>
    rw [hp1] at hC2' hC2
    obtain ⟨n, h13, hn, hn5⟩ := mC.bad (e := e) hC2
    refine sX10_tellStreet_42 _ _ _ _ _ ?_
    simp (disch := omega) only [oAld, oAld1, oAst1, oCV, oGI, oGR, oIf, oIfc, oIld, oPush, hM.1, hM.r25, hM.t25, hM.n25, hM.r26, hM.t26, hM.n26, hS3, h13, List.getElem?_cons_zero, List.getElem?_cons_succ, List.set_cons_zero, List.set_cons_succ, List.drop_succ_cons, List.drop_zero, List.take_succ_cons, List.take_zero, List.length_cons, List.length_nil, List.reverse_cons, List.reverse_nil, List.nil_append, List.cons_append, Option.toList_some, Option.toList_none, va_rf_s, true_and, and_true, true_implies, false_implies, not_true_eq_false, not_false_eq_true, Nat.reduceAdd, Nat.reduceLeDiff, Nat.le_add_left, Nat.zero_le, Nat.le_refl, znew, true_or, or_true, b01_t, b01_f, b01_ok, bool_ft, vp_b01, vp_b0, vp_b1, b01_eq0, b01_eq1, implies_true, nI_add, nI_clamp, zi_in, zi_le_t, zi_le_f, zi_lt_t, zi_lt_f, zi_eq_t, zi_eq_f, nI_leI, nI_ltI, nI_eq, z_in, pk_mul, zu_same, zu_rw, zu_ix, zi_ne0, zi_sub, zi_m1, Nat.add_sub_cancel, Nat.reduceMul, Nat.reduceSub]
    exact tail S3 (.error e) v1 v2 _ hF2 hf2' hC2' (fun q e => by cases e) (by rw [pStr, hp1]; rfl)
  | ok r1 =>
    obtain ⟨c1, q1⟩ := r1
    have hv1' : v1 = oM c1 := hv1 c1 q1 hp1
    have hC2'' : mC b S3 L A (pV (pKn A (xKn x) q1)) := by rw [hp1] at hC2'; exact hC2'
    have hC2s : mC b S2 L A (pV (pKn A (xKn x) q1)) := by rw [hp1] at hC2; exact hC2
    have haq' : a = q1.1 := haq q1 (by rw [pB_ok, hp1]; rfl)
    rw [hp1, pV, pB_ok, pB_ok] at hv2
    cases hp2 : pKn A (xKn x) q1 with
    | error e =>
      rw [hp2] at hC2'' hC2s
      obtain ⟨n, h13, hn, hn5⟩ := mC.bad (e := e) hC2s
      refine sX10_tellStreet_42 _ _ _ _ _ ?_
      simp (disch := omega) only [oAld, oAld1, oAst1, oCV, oGI, oGR, oIf, oIfc, oIld, oPush, hM.1, hM.r25, hM.t25, hM.n25, hM.r26, hM.t26, hM.n26, hS3, h13, List.getElem?_cons_zero, List.getElem?_cons_succ, List.set_cons_zero, List.set_cons_succ, List.drop_succ_cons, List.drop_zero, List.take_succ_cons, List.take_zero, List.length_cons, List.length_nil, List.reverse_cons, List.reverse_nil, List.nil_append, List.cons_append, Option.toList_some, Option.toList_none, va_rf_s, true_and, and_true, true_implies, false_implies, not_true_eq_false, not_false_eq_true, Nat.reduceAdd, Nat.reduceLeDiff, Nat.le_add_left, Nat.zero_le, Nat.le_refl, znew, true_or, or_true, b01_t, b01_f, b01_ok, bool_ft, vp_b01, vp_b0, vp_b1, b01_eq0, b01_eq1, implies_true, nI_add, nI_clamp, zi_in, zi_le_t, zi_le_f, zi_lt_t, zi_lt_f, zi_eq_t, zi_eq_f, nI_leI, nI_ltI, nI_eq, z_in, pk_mul, zu_same, zu_rw, zu_ix, zi_ne0, zi_sub, zi_m1, Nat.add_sub_cancel, Nat.reduceMul, Nat.reduceSub]
      exact tail S3 (.error e) v1 v2 _ hF2 hf2' hC2'' (fun q e => by cases e) (by rw [pStr, hp1, pB_ok, hp2]; rfl)
    | ok r2 =>
      obtain ⟨c2, q2⟩ := r2
      have hv2' : v2 = oM c2 := hv2 c2 q2 hp2
      rw [hp2] at hC2'' hC2s
      have hC3 : mC b S3 L A (.ok q2) := hC2''
      have h13 := mC.good (q := q2) hC2s
      have hps : pStr A x q = pB (pNum A 1 99 (q2.1, if c1.isSome = true ∧ c1 = c2 then pTell 3 q1.1 q2.2 else q2.2)) (fun r3 => pB (pMust A 4 r3.2) (fun q4 => .ok (addS x (oM c1, oM c2, r3.1), q4))) := by
        rw [pStr, hp1, pB_ok, hp2, pB_ok]
      cases c1 with
      | none =>
        have hm1 : (v1 < nI 0) = True := by rw [hv1']; exact eq_true (by decide)
        refine sX10_tellStreet_42 _ _ _ _ _ ?_
        simp (disch := omega) only [oAld, oAld1, oAst1, oCV, oGI, oGR, oIf, oIfc, oIld, oPush, hM.1, hM.r25, hM.t25, hM.n25, hM.r26, hM.t26, hM.n26, hS3, h13, e12s, hm1, List.getElem?_cons_zero, List.getElem?_cons_succ, List.set_cons_zero, List.set_cons_succ, List.drop_succ_cons, List.drop_zero, List.take_succ_cons, List.take_zero, List.length_cons, List.length_nil, List.reverse_cons, List.reverse_nil, List.nil_append, List.cons_append, Option.toList_some, Option.toList_none, va_rf_s, true_and, and_true, true_implies, false_implies, not_true_eq_false, not_false_eq_true, Nat.reduceAdd, Nat.reduceLeDiff, Nat.le_add_left, Nat.zero_le, Nat.le_refl, znew, true_or, or_true, b01_t, b01_f, b01_ok, bool_ft, vp_b01, vp_b0, vp_b1, b01_eq0, b01_eq1, implies_true, nI_add, nI_clamp, zi_in, zi_le_t, zi_le_f, zi_lt_t, zi_lt_f, zi_eq_t, zi_eq_f, nI_leI, nI_ltI, nI_eq, z_in, pk_mul, zu_same, zu_rw, zu_ix, zi_ne0, zi_sub, zi_m1, Nat.add_sub_cancel, Nat.reduceMul, Nat.reduceSub]
        refine tail S3 (.ok q2) v1 v2 _ hF2 hf2' hC3 (fun q e => ⟨e12, e13⟩) ?_
        rw [hps, pB_ok, if_neg (by simp), hv1', hv2']
      | some i =>
        have hi : i < 7 := by
          have h1 := (pKn_inv hp1).1
          have h2 := (firstF_lt h1).1
          omega
        have hm1 : (v1 < nI 0) = False := by rw [hv1', oM]; exact zi_lt_f (by omega) (by omega)
        by_cases hcc : some i = c2
        · have hvv : v1 = v2 := by rw [hv1', hv2', hcc]
          have hvt : (v1 = v2) = True := eq_true hvv
          refine sX10_tellStreet_42 _ _ _ _ _ ?_
          simp (disch := omega) only [oAld, oAld1, oAst1, oCV, oGI, oGR, oIf, oIfc, oIld, oPush, hM.1, hM.r25, hM.t25, hM.n25, hM.r26, hM.t26, hM.n26, hS3, h13, e12s, hm1, hvt, List.getElem?_cons_zero, List.getElem?_cons_succ, List.set_cons_zero, List.set_cons_succ, List.drop_succ_cons, List.drop_zero, List.take_succ_cons, List.take_zero, List.length_cons, List.length_nil, List.reverse_cons, List.reverse_nil, List.nil_append, List.cons_append, Option.toList_some, Option.toList_none, va_rf_s, true_and, and_true, true_implies, false_implies, not_true_eq_false, not_false_eq_true, Nat.reduceAdd, Nat.reduceLeDiff, Nat.le_add_left, Nat.zero_le, Nat.le_refl, znew, true_or, or_true, b01_t, b01_f, b01_ok, bool_ft, vp_b01, vp_b0, vp_b1, b01_eq0, b01_eq1, implies_true, nI_add, nI_clamp, zi_in, zi_le_t, zi_le_f, zi_lt_t, zi_lt_f, zi_eq_t, zi_eq_f, nI_leI, nI_ltI, nI_eq, z_in, pk_mul, zu_same, zu_rw, zu_ix, zi_ne0, zi_sub, zi_m1, Nat.add_sub_cancel, Nat.reduceMul, Nat.reduceSub]
          have hal : a < A.length := by
            rw [hp1] at hC1
            rw [haq']; exact hC1.2.2.2.2.1
          refine zC.of0 (zX10_wrong hM hA hC3 (by omega) (by omega) ha4 (fun _ _ => hal)) (by omega) (Nat.zero_le _) (Nat.zero_le _) ?_
          rintro _ _ ⟨rfl, S4, rfl, hf4, hC4⟩
          refine tail S4 _ v1 v2 _ (hF2.go hf4 rfl rfl) (hf2'.tr hf4 rfl rfl rfl rfl) hC4 (fun q e => ⟨fun j => by rw [hf4.at (o := 12) rfl rfl]; exact e12 j, fun j => by rw [hf4.at (o := 13) rfl rfl]; exact e13 j⟩) ?_
          rw [hps, pTl, pB_ok, pB_ok, if_pos ⟨rfl, hcc⟩, hv1', hv2', haq']
        · have hne : (v1 = v2) = False := by
            refine eq_false (fun e => hcc ?_)
            rw [hv1', hv2'] at e
            cases c2 with
            | none => exact absurd e (by rw [oM, oM]; exact fun e => absurd (congrArg (fun v => decide (nI 0 ≤ v)) e) (by rw [show decide (nI 0 ≤ nI i) = true from decide_eq_true (nI_le (by omega) (by omega))]; decide))
            | some j =>
              have hj : j < 7 := by
                have h1 := (pKn_inv hp2).1
                have h2 := (firstF_lt h1).1
                omega
              rw [(nI_eq (by omega) (by omega)).mp e]
          refine sX10_tellStreet_42 _ _ _ _ _ ?_
          simp (disch := omega) only [oAld, oAld1, oAst1, oCV, oGI, oGR, oIf, oIfc, oIld, oPush, hM.1, hM.r25, hM.t25, hM.n25, hM.r26, hM.t26, hM.n26, hS3, h13, e12s, hm1, hne, List.getElem?_cons_zero, List.getElem?_cons_succ, List.set_cons_zero, List.set_cons_succ, List.drop_succ_cons, List.drop_zero, List.take_succ_cons, List.take_zero, List.length_cons, List.length_nil, List.reverse_cons, List.reverse_nil, List.nil_append, List.cons_append, Option.toList_some, Option.toList_none, va_rf_s, true_and, and_true, true_implies, false_implies, not_true_eq_false, not_false_eq_true, Nat.reduceAdd, Nat.reduceLeDiff, Nat.le_add_left, Nat.zero_le, Nat.le_refl, znew, true_or, or_true, b01_t, b01_f, b01_ok, bool_ft, vp_b01, vp_b0, vp_b1, b01_eq0, b01_eq1, implies_true, nI_add, nI_clamp, zi_in, zi_le_t, zi_le_f, zi_lt_t, zi_lt_f, zi_eq_t, zi_eq_f, nI_leI, nI_ltI, nI_eq, z_in, pk_mul, zu_same, zu_rw, zu_ix, zi_ne0, zi_sub, zi_m1, Nat.add_sub_cancel, Nat.reduceMul, Nat.reduceSub]
          refine tail S3 (.ok q2) v1 v2 _ hF2 hf2' hC3 (fun q e => ⟨e12, e13⟩) ?_
          rw [hps, pB_ok, if_neg (fun e => hcc e.2), hv1', hv2']
theorem getD_snY (v : List Nat × Nat × Nat × Int32) (a : List (List Nat × Nat × Nat × Int32)) (i : Nat) : (a ++ [v]).getD i y0 = if i = a.length then v else if i < a.length then a.getD i y0 else y0 := getD_snoc a v y0 i
theorem xHas_Y {x : zTx} {y : List Nat × Nat × Nat × Int32} {w : List Nat} : xHas (addY x y) w = (xHas x w || decide (y.1 = w)) := by
  unfold xHas addY xC xY xW
  show decide (w ∈ x.1 ∨ w ∈ (x.2.2.1 ++ [y]).map (fun y => y.1) ∨ w ∈ x.2.2.2.1.map (fun y => y.1)) = _
  rw [List.map_append, List.map_cons, List.map_nil]
  have e : (w = y.1) = (y.1 = w) := propext eq_comm
  simp only [List.mem_append, List.mem_singleton, e]
  by_cases h1 : w ∈ x.1 <;> by_cases h2 : w ∈ x.2.2.1.map (fun y => y.1) <;> by_cases h3 : w ∈ x.2.2.2.1.map (fun y => y.1) <;> by_cases h4 : y.1 = w <;> simp only [h1, h2, h3, h4, true_or, or_true, or_self, or_false, false_or, decide_true, decide_false, Bool.or_true, Bool.true_or, Bool.or_false, Bool.or_self]
theorem xHas_W {x : zTx} {y : List Nat × Nat} {w : List Nat} : xHas (addW x y) w = (xHas x w || decide (y.1 = w)) := by
  unfold xHas addW xC xY xW
  show decide (w ∈ x.1 ∨ w ∈ x.2.2.1.map (fun y => y.1) ∨ w ∈ (x.2.2.2.1 ++ [y]).map (fun y => y.1)) = _
  rw [List.map_append, List.map_cons, List.map_nil]
  have e : (w = y.1) = (y.1 = w) := propext eq_comm
  simp only [List.mem_append, List.mem_singleton, e]
  by_cases h1 : w ∈ x.1 <;> by_cases h2 : w ∈ x.2.2.1.map (fun y => y.1) <;> by_cases h3 : w ∈ x.2.2.2.1.map (fun y => y.1) <;> by_cases h4 : y.1 = w <;> simp only [h1, h2, h3, h4, true_or, or_true, or_self, or_false, false_or, decide_true, decide_false, Bool.or_true, Bool.true_or, Bool.or_false, Bool.or_self]
theorem xHas_C {x : zTx} {y w : List Nat} : xHas (addC x y) w = (xHas x w || decide (y = w)) := by
  unfold xHas addC xC xY xW
  show decide (w ∈ x.1 ++ [y] ∨ w ∈ x.2.2.1.map (fun y => y.1) ∨ w ∈ x.2.2.2.1.map (fun y => y.1)) = _
  have e : (w = y) = (y = w) := propext eq_comm
  simp only [List.mem_append, List.mem_singleton, e]
  by_cases h1 : w ∈ x.1 <;> by_cases h2 : w ∈ x.2.2.1.map (fun y => y.1) <;> by_cases h3 : w ∈ x.2.2.2.1.map (fun y => y.1) <;> by_cases h4 : y = w <;> simp only [h1, h2, h3, h4, true_or, or_true, or_self, or_false, false_or, decide_true, decide_false, Bool.or_true, Bool.true_or, Bool.or_false, Bool.or_self]
end NB
