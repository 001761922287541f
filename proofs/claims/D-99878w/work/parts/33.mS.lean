/-! the model: tokens -/
theorem u8_ex (x : Int32) : ∃ j : Nat, j < 256 ∧ x &&& 255 = nI j := pk_andE x 8 (by decide)
/-- a byte without its sign -/
def u8 (x : Int32) : Nat := (x &&& 255).toNatClampNeg
theorem u8_lt (x : Int32) : u8 x < 256 := by
  obtain ⟨j, hj, he⟩ := u8_ex x
  rw [u8, he, nI_clamp (by omega)]; exact hj
theorem u8_eq (x : Int32) : x &&& nI 255 = nI (u8 x) := by
  obtain ⟨j, hj, he⟩ := u8_ex x
  rw [u8, he, nI_clamp (by omega)]; exact he
def by8 (P : List Int32) (i : Nat) : Nat := if i < P.length then u8 (P.getD i 0) else 0
theorem by8_lt (P : List Int32) (i : Nat) : by8 P i < 256 := by
  unfold by8; split
  · exact u8_lt _
  · omega
/-- the text that is read -/
def mTx (b : Nat) (S : Nat → Nat → Int32) (P : List Int32) : Prop := S b 4 = nI P.length ∧ P.length ≤ 2000 ∧ ∀ i, i < P.length → S (b + 2) i = P.getD i 0
theorem mTx.fr {b : Nat} {S S' : Nat → Nat → Int32} {P : List Int32} {D F : List Nat} (h : mTx b S P) (hf : zfr D F b S S') (h1 : D.all (fun x => !(x == 2)) = true) (h2 : F.all (fun x => !(x == 4)) = true) : mTx b S' P := by
  unfold mTx
  rw [hf.at h1 rfl, hf.f h2]
  exact h
def isL (u : Nat) : Bool := decide (97 ≤ u ∧ u ≤ 122)
def isD (u : Nat) : Bool := decide (48 ≤ u ∧ u ≤ 57)
def isSp (u : Nat) : Bool := decide (u = 9 ∨ u = 10 ∨ u = 13 ∨ u = 32)
def run (p : Nat → Bool) : Nat → Nat → Nat
  | 0, _ => 0
  | f + 1, i => if p i = true then run p f (i + 1) + 1 else 0
def runL (P : List Int32) (i : Nat) : Nat := run (fun j => isL (by8 P j)) (P.length - i) i
def runD (P : List Int32) (i : Nat) : Nat := run (fun j => isD (by8 P j)) (P.length - i) i
def nmL (P : List Int32) (i : Nat) : Nat → List Nat
  | 0 => []
  | n + 1 => nmL P i n ++ [by8 P (i + n) - 96]
def hsL (w : List Nat) : Nat := w.foldl (fun a c => 27 * a + c) 0
def dgV (P : List Int32) (i : Nat) : Nat → Nat
  | 0 => 0
  | n + 1 => 10 * dgV P i n + (by8 P (i + n) - 48)
def kwT : List (List Nat) := [[3, 15, 18, 14, 5, 18], [19, 20, 18, 5, 5, 20], [25, 15, 21, 14, 7], [23, 15, 18, 4], [12, 9, 7, 8, 20, 5, 18], [7, 12, 15, 23, 19], [23, 5, 1, 18, 19], [3, 15, 15, 12, 19], [12, 5, 1, 22, 5, 19], [4, 18, 1, 21, 7, 8, 20], [19, 5, 5, 4], [9, 6], [20, 8, 5, 14], [5, 12, 19, 5], [8, 5, 1, 20], [1, 7, 5], [20, 5, 13, 16, 5, 18], [23, 15, 18, 14], [19, 9, 14, 3, 5], [8, 15, 21, 18], [7, 12, 15, 23], [23, 8, 9, 3, 8], [20, 15, 12, 4]]
def kwL (k : Nat) : List Nat := kwT.getD k []
def kwM (w : List Nat) : Nat → Nat
  | 0 => 1
  | k + 1 => if kwL k = w then 20 + k else kwM w k
def sgK (u : Nat) : Nat := if u = 59 then 4 else if u = 61 then 5 else if u = 40 then 6 else if u = 41 then 7 else if u = 43 then 8 else if u = 45 then 9 else if u = 42 then 10 else if u = 47 then 15 else if u = 60 then 13 else 3
/-- kind, place, number, name -/
abbrev zTk : Type := Nat × Nat × Nat × List Nat
def tkO (P : List Int32) (i : Nat) : zTk × Nat :=
  if isL (by8 P i) = true then ((if 8 < runL P i then 3 else kwM (nmL P i (runL P i)) 23, i, 0, nmL P i (min (runL P i) 8)), i + runL P i)
  else if isD (by8 P i) = true then ((if 4 < runD P i then 3 else 2, i, dgV P i (min (runD P i) 4), []), i + runD P i)
  else ((sgK (by8 P i), i, 0, []), i + 1)
def tks (P : List Int32) : Nat → Nat → List zTk
  | 0, _ => []
  | f + 1, i => if P.length ≤ i then [(0, P.length, 0, [])] else if isSp (by8 P i) = true then tks P f (i + 1) else (tkO P i).1 :: tks P f (tkO P i).2
def tk0 : zTk := (0, 0, 0, [])
/-- the tokens that stand -/
def mTK (b : Nat) (S : Nat → Nat → Int32) (L : Nat → Nat → Int64) (K : List zTk) : Prop := S b 10 = nI K.length ∧ K.length ≤ 401 ∧ ∀ i, i < K.length → S (b + 3) i = nI (K.getD i tk0).1 ∧ S (b + 4) i = nI (K.getD i tk0).2.1 ∧ S (b + 5) i = nI (K.getD i tk0).2.2.1 ∧ L (b + 6) i = lN (hsL (K.getD i tk0).2.2.2)
theorem run_le {p : Nat → Bool} : ∀ f i, run p f i ≤ f
  | 0, _ => Nat.le_refl _
  | f + 1, i => by
    rw [run]; split
    · have := run_le (p := p) f (i + 1); omega
    · omega
/-- a run goes as far as it says, and no further -/
theorem run_in {p : Nat → Bool} : ∀ {f i n}, n < run p f i → p (i + n) = true
  | 0, _, n, h => absurd h (by rw [run]; omega)
  | f + 1, i, n, h => by
    rw [run] at h
    split at h
    · rename_i hp
      cases n with
      | zero => exact hp
      | succ n =>
        have := run_in (p := p) (f := f) (i := i + 1) (n := n) (by omega)
        rw [show i + (n + 1) = i + 1 + n by omega]; exact this
    · exact absurd h (by omega)
theorem run_end {p : Nat → Bool} : ∀ {f i}, run p f i < f → p (i + run p f i) = false
  | 0, _, h => absurd h (by omega)
  | f + 1, i, h => by
    rw [run] at h ⊢
    split
    · rename_i hp
      rw [if_pos hp] at h
      have := run_end (p := p) (f := f) (i := i + 1) (by omega)
      rw [show i + (run p f (i + 1) + 1) = i + 1 + run p f (i + 1) by omega]; exact this
    · rename_i hp
      simpa using hp
theorem by8_out {P : List Int32} {i : Nat} (h : P.length ≤ i) : by8 P i = 0 := by rw [by8, if_neg (by omega)]
theorem runL_end (P : List Int32) (i : Nat) : isL (by8 P (i + runL P i)) = false := by
  by_cases h : runL P i < P.length - i
  · exact run_end (p := fun j => isL (by8 P j)) h
  · have : runL P i ≤ P.length - i := run_le _ _
    rw [by8_out (by omega)]; rfl
theorem runD_end (P : List Int32) (i : Nat) : isD (by8 P (i + runD P i)) = false := by
  by_cases h : runD P i < P.length - i
  · exact run_end (p := fun j => isD (by8 P j)) h
  · have : runD P i ≤ P.length - i := run_le _ _
    rw [by8_out (by omega)]; rfl
theorem hsL_snoc (w : List Nat) (c : Nat) : hsL (w ++ [c]) = 27 * hsL w + c := by
  unfold hsL; rw [List.foldl_append]; rfl
theorem nmL_hs {P : List Int32} {i : Nat} : ∀ n, (∀ j, j < n → isL (by8 P (i + j)) = true) → hsL (nmL P i n) < 27 ^ n
  | 0, _ => Nat.zero_lt_one
  | n + 1, h => by
    have ih := nmL_hs n (fun j hj => h j (by omega))
    have hl : 97 ≤ by8 P (i + n) ∧ by8 P (i + n) ≤ 122 := by simpa [isL] using h n (by omega)
    rw [nmL, hsL_snoc, Nat.pow_succ]
    omega
section MS
variable {l : Launch} {E : zE} {b z : Nat} {h : Nat → Option zSh} {S : Nat → Nat → Int32} {L : Nat → Nat → Int64} {P : List Int32} {K : List zTk}
theorem zX10_byteAt (hM : isM h b) (hT : mTx b S P) {i : Nat} (hi : i < 2 ^ 30) :
    zM l E 0 YX10_byteAt [.ref b, .int (nI i)] (z, h, S, L) 0 0 (fun r X => r = some (.int (nI (by8 P i))) ∧ X = (z, h, S, L)) (fun _ _ => False) := by
  obtain ⟨h4, hl, hi2⟩ := hT
  refine zM.go rfl rfl (Nat.le_of_ble_eq_true rfl) (ls := [some (.ref b), some (.int (nI i))]) rfl ?_
  intro V hVl hVE hVd hVc hVs hVQ hVX
  by_cases hlt : i < P.length
  · have e := hi2 i hlt
    refine sX10_byteAt_0 _ _ _ _ _ ?_
    simp (disch := omega) only [oAld, oAld1, oBin, oGI, oGR, oIfc, oIld, oNop, oPush, oRI, hM.1, hM.r3, hM.t3, hM.n3, h4, e, u8_eq, List.getElem?_cons_zero, List.getElem?_cons_succ, List.set_cons_zero, List.set_cons_succ, List.drop_succ_cons, List.drop_zero, List.take_succ_cons, List.take_zero, List.length_cons, List.length_nil, List.reverse_cons, List.reverse_nil, List.nil_append, List.cons_append, Option.toList_some, Option.toList_none, va_rf_s, true_and, and_true, true_implies, false_implies, not_true_eq_false, not_false_eq_true, Nat.reduceAdd, Nat.reduceLeDiff, Nat.le_add_left, Nat.zero_le, Nat.le_refl, znew, true_or, or_true, b01_t, b01_f, b01_ok, bool_ft, vp_b01, vp_b0, vp_b1, b01_eq0, b01_eq1, implies_true, nI_add, nI_clamp, zi_in, zi_le_t, zi_le_f, zi_lt_t, zi_lt_f, zi_eq_t, zi_eq_f, nI_leI, nI_ltI, nI_eq, z_in, pk_mul, zu_same, zu_rw, zu_ix, zi_ne0, zi_sub, zi_m1, Nat.add_sub_cancel, Nat.reduceMul, Nat.reduceSub]
    exact hVQ _ _ ⟨by rw [by8, if_pos hlt], rfl⟩
  · refine sX10_byteAt_0 _ _ _ _ _ ?_
    simp (disch := omega) only [oAld, oAld1, oBin, oGI, oGR, oIfc, oIld, oNop, oPush, oRI, hM.1, hM.r3, hM.t3, hM.n3, h4, List.getElem?_cons_zero, List.getElem?_cons_succ, List.set_cons_zero, List.set_cons_succ, List.drop_succ_cons, List.drop_zero, List.take_succ_cons, List.take_zero, List.length_cons, List.length_nil, List.reverse_cons, List.reverse_nil, List.nil_append, List.cons_append, Option.toList_some, Option.toList_none, va_rf_s, true_and, and_true, true_implies, false_implies, not_true_eq_false, not_false_eq_true, Nat.reduceAdd, Nat.reduceLeDiff, Nat.le_add_left, Nat.zero_le, Nat.le_refl, znew, true_or, or_true, b01_t, b01_f, b01_ok, bool_ft, vp_b01, vp_b0, vp_b1, b01_eq0, b01_eq1, implies_true, nI_add, nI_clamp, zi_in, zi_le_t, zi_le_f, zi_lt_t, zi_lt_f, zi_eq_t, zi_eq_f, nI_leI, nI_ltI, nI_eq, z_in, pk_mul, zu_same, zu_rw, zu_ix, zi_ne0, zi_sub, zi_m1, Nat.add_sub_cancel, Nat.reduceMul, Nat.reduceSub]
    exact hVQ _ _ ⟨by rw [by8, if_neg hlt], rfl⟩
theorem zX10_isDigit {u : Nat} (hu : u < 256) (X : zX) : zM l E 0 YX10_isDigit [.int (nI u)] X 0 0 (fun r X' => r = some (.int (b01 (isD u))) ∧ X' = X) (fun _ _ => False) := by
  refine zM.go rfl rfl (Nat.le_of_ble_eq_true rfl) (ls := [some (.int (nI u))]) rfl ?_
  intro V hVl hVE hVd hVc hVs hVQ hVX
  refine sX10_isDigit_0 _ _ _ _ _ ?_
  simp (disch := omega) only [oIfc, oIld, oNop, oPush, oRZ, List.getElem?_cons_zero, List.getElem?_cons_succ, List.set_cons_zero, List.set_cons_succ, List.drop_succ_cons, List.drop_zero, List.take_succ_cons, List.take_zero, List.length_cons, List.length_nil, List.reverse_cons, List.reverse_nil, List.nil_append, List.cons_append, Option.toList_some, Option.toList_none, va_rf_s, true_and, and_true, true_implies, false_implies, not_true_eq_false, not_false_eq_true, Nat.reduceAdd, Nat.reduceLeDiff, Nat.le_add_left, Nat.zero_le, Nat.le_refl, znew, true_or, or_true, b01_t, b01_f, b01_ok, bool_ft, vp_b01, vp_b0, vp_b1, b01_eq0, b01_eq1, implies_true, nI_add, nI_clamp, zi_in, zi_le_t, zi_le_f, zi_lt_t, zi_lt_f, zi_eq_t, zi_eq_f, nI_leI, nI_ltI, nI_eq, z_in, pk_mul, zu_same, zu_rw, zu_ix, zi_ne0, zi_sub, zi_m1, Nat.add_sub_cancel, Nat.reduceMul, Nat.reduceSub]
  refine ⟨fun h0 => hVQ _ _ ⟨?_, rfl⟩, fun h0 => ⟨fun h1 => hVQ _ _ ⟨?_, rfl⟩, fun h1 => hVQ _ _ ⟨?_, rfl⟩⟩⟩
  · rw [isD, decide_eq_false (by omega)]; rfl
  · rw [isD, decide_eq_false (by omega)]; rfl
  · rw [isD, decide_eq_true (by omega)]; rfl
theorem zX10_isLetter {u : Nat} (hu : u < 256) (X : zX) : zM l E 0 YX10_isLetter [.int (nI u)] X 0 0 (fun r X' => r = some (.int (b01 (isL u))) ∧ X' = X) (fun _ _ => False) := by
  refine zM.go rfl rfl (Nat.le_of_ble_eq_true rfl) (ls := [some (.int (nI u))]) rfl ?_
  intro V hVl hVE hVd hVc hVs hVQ hVX
  refine sX10_isLetter_0 _ _ _ _ _ ?_
  simp (disch := omega) only [oIfc, oIld, oNop, oPush, oRZ, List.getElem?_cons_zero, List.getElem?_cons_succ, List.set_cons_zero, List.set_cons_succ, List.drop_succ_cons, List.drop_zero, List.take_succ_cons, List.take_zero, List.length_cons, List.length_nil, List.reverse_cons, List.reverse_nil, List.nil_append, List.cons_append, Option.toList_some, Option.toList_none, va_rf_s, true_and, and_true, true_implies, false_implies, not_true_eq_false, not_false_eq_true, Nat.reduceAdd, Nat.reduceLeDiff, Nat.le_add_left, Nat.zero_le, Nat.le_refl, znew, true_or, or_true, b01_t, b01_f, b01_ok, bool_ft, vp_b01, vp_b0, vp_b1, b01_eq0, b01_eq1, implies_true, nI_add, nI_clamp, zi_in, zi_le_t, zi_le_f, zi_lt_t, zi_lt_f, zi_eq_t, zi_eq_f, nI_leI, nI_ltI, nI_eq, z_in, pk_mul, zu_same, zu_rw, zu_ix, zi_ne0, zi_sub, zi_m1, Nat.add_sub_cancel, Nat.reduceMul, Nat.reduceSub]
  refine ⟨fun h0 => hVQ _ _ ⟨?_, rfl⟩, fun h0 => ⟨fun h1 => hVQ _ _ ⟨?_, rfl⟩, fun h1 => hVQ _ _ ⟨?_, rfl⟩⟩⟩
  · rw [isL, decide_eq_false (by omega)]; rfl
  · rw [isL, decide_eq_false (by omega)]; rfl
  · rw [isL, decide_eq_true (by omega)]; rfl
theorem zX10_appends {n c : Nat} (hc : 97 ≤ c ∧ c ≤ 122) (X : zX) : zM l E 0 YX10_appends [.long (lN n), .int (nI c)] X 0 0 (fun r X' => r = some (.long (lN (27 * n + (c - 96)))) ∧ X' = X) (fun _ _ => False) := by
  have h27 : (27 : Int64) = lN 27 := rfl
  have e1 : nI (c - 97 + 1) = nI (c - 96) := by rw [show c - 97 + 1 = c - 96 by omega]
  refine zM.go rfl rfl (Nat.le_of_ble_eq_true rfl) (ls := [some (.long (lN n)), none, some (.int (nI c))]) rfl ?_
  intro V hVl hVE hVd hVc hVs hVQ hVX
  refine sX10_appends_0 _ _ _ _ _ ?_
  simp (disch := omega) only [oBin, oI2l, oIf, oIld, oLBin, oLld, oNop, oPush, oRL, h27, lN_mul, e1, nI_l, lN_add, List.getElem?_cons_zero, List.getElem?_cons_succ, List.set_cons_zero, List.set_cons_succ, List.drop_succ_cons, List.drop_zero, List.take_succ_cons, List.take_zero, List.length_cons, List.length_nil, List.reverse_cons, List.reverse_nil, List.nil_append, List.cons_append, Option.toList_some, Option.toList_none, va_rf_s, true_and, and_true, true_implies, false_implies, not_true_eq_false, not_false_eq_true, Nat.reduceAdd, Nat.reduceLeDiff, Nat.le_add_left, Nat.zero_le, Nat.le_refl, znew, true_or, or_true, b01_t, b01_f, b01_ok, bool_ft, vp_b01, vp_b0, vp_b1, b01_eq0, b01_eq1, implies_true, nI_add, nI_clamp, zi_in, zi_le_t, zi_le_f, zi_lt_t, zi_lt_f, zi_eq_t, zi_eq_f, nI_leI, nI_ltI, nI_eq, z_in, pk_mul, zu_same, zu_rw, zu_ix, zi_ne0, zi_sub, zi_m1, Nat.add_sub_cancel, Nat.reduceMul, Nat.reduceSub]
  exact hVQ _ _ ⟨rfl, rfl⟩
theorem zX10_appends0 {n : Int64} (X : zX) : zM l E 0 YX10_appends [.long n, .int (nI 0)] X 0 0 (fun r X' => r = some (.long n) ∧ X' = X) (fun _ _ => False) := by
  refine zM.go rfl rfl (Nat.le_of_ble_eq_true rfl) (ls := [some (.long n), none, some (.int (nI 0))]) rfl ?_
  intro V hVl hVE hVd hVc hVs hVQ hVX
  refine sX10_appends_0 _ _ _ _ _ ?_
  simp (disch := omega) only [oBin, oI2l, oIf, oIld, oLBin, oLld, oNop, oPush, oRL, List.getElem?_cons_zero, List.getElem?_cons_succ, List.set_cons_zero, List.set_cons_succ, List.drop_succ_cons, List.drop_zero, List.take_succ_cons, List.take_zero, List.length_cons, List.length_nil, List.reverse_cons, List.reverse_nil, List.nil_append, List.cons_append, Option.toList_some, Option.toList_none, va_rf_s, true_and, and_true, true_implies, false_implies, not_true_eq_false, not_false_eq_true, Nat.reduceAdd, Nat.reduceLeDiff, Nat.le_add_left, Nat.zero_le, Nat.le_refl, znew, true_or, or_true, b01_t, b01_f, b01_ok, bool_ft, vp_b01, vp_b0, vp_b1, b01_eq0, b01_eq1, implies_true, nI_add, nI_clamp, zi_in, zi_le_t, zi_le_f, zi_lt_t, zi_lt_f, zi_eq_t, zi_eq_f, nI_leI, nI_ltI, nI_eq, z_in, pk_mul, zu_same, zu_rw, zu_ix, zi_ne0, zi_sub, zi_m1, Nat.add_sub_cancel, Nat.reduceMul, Nat.reduceSub]
  exact hVQ _ _ ⟨rfl, rfl⟩
theorem getD_snocK (v : zTk) (i : Nat) : (K ++ [v]).getD i tk0 = if i = K.length then v else if i < K.length then K.getD i tk0 else tk0 := getD_snoc K v tk0 i
theorem zX10_token (hM : isM h b) (hK : mTK b S L K) (hl : K.length ≤ 400) (k w v : Nat) (nm : List Nat) :
    zM l E 0 YX10_token [.ref b, .int (nI k), .int (nI w), .int (nI v), .long (lN (hsL nm))] (z, h, S, L) 0 0 (fun r X => r = none ∧ ∃ S' L', X = (z, h, S', L') ∧ zfr [3, 4, 5] [10] b S S' ∧ (∀ a, a ≠ b + 6 → L' a = L a) ∧ mTK b S' L' (K ++ [(k, w, v, nm)])) (fun _ _ => False) := by
  obtain ⟨h10, hk, hi⟩ := id hK
  refine zM.go rfl rfl (Nat.le_of_ble_eq_true rfl) (ls := [some (.ref b), some (.int (nI k)), some (.int (nI w)), some (.int (nI v)), some (.long (lN (hsL nm))), none]) rfl ?_
  intro V hVl hVE hVd hVc hVs hVQ hVX
  refine sX10_token_0 _ _ _ _ _ ?_
  simp (disch := omega) only [oAld, oAst1, oBin, oDup, oGI, oGR, oIld, oLast, oLld, oPI, oPush, oRV, hM.1, hM.r5, hM.t5, hM.n5, hM.r6, hM.t6, hM.n6, hM.r7, hM.t7, hM.n7, hM.r8, hM.t8, hM.n8, h10, List.getElem?_cons_zero, List.getElem?_cons_succ, List.set_cons_zero, List.set_cons_succ, List.drop_succ_cons, List.drop_zero, List.take_succ_cons, List.take_zero, List.length_cons, List.length_nil, List.reverse_cons, List.reverse_nil, List.nil_append, List.cons_append, Option.toList_some, Option.toList_none, va_rf_s, true_and, and_true, true_implies, false_implies, not_true_eq_false, not_false_eq_true, Nat.reduceAdd, Nat.reduceLeDiff, Nat.le_add_left, Nat.zero_le, Nat.le_refl, znew, true_or, or_true, b01_t, b01_f, b01_ok, bool_ft, vp_b01, vp_b0, vp_b1, b01_eq0, b01_eq1, implies_true, nI_add, nI_clamp, zi_in, zi_le_t, zi_le_f, zi_lt_t, zi_lt_f, zi_eq_t, zi_eq_f, nI_leI, nI_ltI, nI_eq, z_in, pk_mul, zu_same, zu_rw, zu_ix, zi_ne0, zi_sub, zi_m1, Nat.add_sub_cancel, Nat.reduceMul, Nat.reduceSub]
  refine hVQ _ _ ⟨rfl, _, _, rfl, (((zfr.rf.row (by decide) (by decide)).row (by decide) (by decide)).row (by decide) (by decide)).fld (by decide), fun a ha => by rw [zu_rw _ _ ha], ?_, ?_, ?_⟩
  · rw [zu_same]; simp
  · simp; omega
  · intro i hi2
    simp only [List.length_append, List.length_cons, List.length_nil] at hi2
    rw [getD_snocK]
    by_cases he : i = K.length
    · subst he
      simp (disch := omega) only [List.getElem?_cons_zero, List.getElem?_cons_succ, List.set_cons_zero, List.set_cons_succ, List.drop_succ_cons, List.drop_zero, List.take_succ_cons, List.take_zero, List.length_cons, List.length_nil, List.reverse_cons, List.reverse_nil, List.nil_append, List.cons_append, Option.toList_some, Option.toList_none, va_rf_s, true_and, and_true, true_implies, false_implies, not_true_eq_false, not_false_eq_true, Nat.reduceAdd, Nat.reduceLeDiff, Nat.le_add_left, Nat.zero_le, Nat.le_refl, znew, true_or, or_true, b01_t, b01_f, b01_ok, bool_ft, vp_b01, vp_b0, vp_b1, b01_eq0, b01_eq1, implies_true, nI_add, nI_clamp, zi_in, zi_le_t, zi_le_f, zi_lt_t, zi_lt_f, zi_eq_t, zi_eq_f, nI_leI, nI_ltI, nI_eq, z_in, pk_mul, zu_same, zu_rw, zu_ix, zi_ne0, zi_sub, zi_m1, Nat.add_sub_cancel, Nat.reduceMul, Nat.reduceSub, if_true]
    · obtain ⟨q1, q2, q3, q4⟩ := hi i (by omega)
      rw [if_neg he, if_pos (by omega)]
      refine ⟨?_, ?_, ?_, ?_⟩
      · simp (disch := omega) only [List.getElem?_cons_zero, List.getElem?_cons_succ, List.set_cons_zero, List.set_cons_succ, List.drop_succ_cons, List.drop_zero, List.take_succ_cons, List.take_zero, List.length_cons, List.length_nil, List.reverse_cons, List.reverse_nil, List.nil_append, List.cons_append, Option.toList_some, Option.toList_none, va_rf_s, true_and, and_true, true_implies, false_implies, not_true_eq_false, not_false_eq_true, Nat.reduceAdd, Nat.reduceLeDiff, Nat.le_add_left, Nat.zero_le, Nat.le_refl, znew, true_or, or_true, b01_t, b01_f, b01_ok, bool_ft, vp_b01, vp_b0, vp_b1, b01_eq0, b01_eq1, implies_true, nI_add, nI_clamp, zi_in, zi_le_t, zi_le_f, zi_lt_t, zi_lt_f, zi_eq_t, zi_eq_f, nI_leI, nI_ltI, nI_eq, z_in, pk_mul, zu_same, zu_rw, zu_ix, zi_ne0, zi_sub, zi_m1, Nat.add_sub_cancel, Nat.reduceMul, Nat.reduceSub, q1]
      · simp (disch := omega) only [List.getElem?_cons_zero, List.getElem?_cons_succ, List.set_cons_zero, List.set_cons_succ, List.drop_succ_cons, List.drop_zero, List.take_succ_cons, List.take_zero, List.length_cons, List.length_nil, List.reverse_cons, List.reverse_nil, List.nil_append, List.cons_append, Option.toList_some, Option.toList_none, va_rf_s, true_and, and_true, true_implies, false_implies, not_true_eq_false, not_false_eq_true, Nat.reduceAdd, Nat.reduceLeDiff, Nat.le_add_left, Nat.zero_le, Nat.le_refl, znew, true_or, or_true, b01_t, b01_f, b01_ok, bool_ft, vp_b01, vp_b0, vp_b1, b01_eq0, b01_eq1, implies_true, nI_add, nI_clamp, zi_in, zi_le_t, zi_le_f, zi_lt_t, zi_lt_f, zi_eq_t, zi_eq_f, nI_leI, nI_ltI, nI_eq, z_in, pk_mul, zu_same, zu_rw, zu_ix, zi_ne0, zi_sub, zi_m1, Nat.add_sub_cancel, Nat.reduceMul, Nat.reduceSub, q2]
      · simp (disch := omega) only [List.getElem?_cons_zero, List.getElem?_cons_succ, List.set_cons_zero, List.set_cons_succ, List.drop_succ_cons, List.drop_zero, List.take_succ_cons, List.take_zero, List.length_cons, List.length_nil, List.reverse_cons, List.reverse_nil, List.nil_append, List.cons_append, Option.toList_some, Option.toList_none, va_rf_s, true_and, and_true, true_implies, false_implies, not_true_eq_false, not_false_eq_true, Nat.reduceAdd, Nat.reduceLeDiff, Nat.le_add_left, Nat.zero_le, Nat.le_refl, znew, true_or, or_true, b01_t, b01_f, b01_ok, bool_ft, vp_b01, vp_b0, vp_b1, b01_eq0, b01_eq1, implies_true, nI_add, nI_clamp, zi_in, zi_le_t, zi_le_f, zi_lt_t, zi_lt_f, zi_eq_t, zi_eq_f, nI_leI, nI_ltI, nI_eq, z_in, pk_mul, zu_same, zu_rw, zu_ix, zi_ne0, zi_sub, zi_m1, Nat.add_sub_cancel, Nat.reduceMul, Nat.reduceSub, q3]
      · simp (disch := omega) only [List.getElem?_cons_zero, List.getElem?_cons_succ, List.set_cons_zero, List.set_cons_succ, List.drop_succ_cons, List.drop_zero, List.take_succ_cons, List.take_zero, List.length_cons, List.length_nil, List.reverse_cons, List.reverse_nil, List.nil_append, List.cons_append, Option.toList_some, Option.toList_none, va_rf_s, true_and, and_true, true_implies, false_implies, not_true_eq_false, not_false_eq_true, Nat.reduceAdd, Nat.reduceLeDiff, Nat.le_add_left, Nat.zero_le, Nat.le_refl, znew, true_or, or_true, b01_t, b01_f, b01_ok, bool_ft, vp_b01, vp_b0, vp_b1, b01_eq0, b01_eq1, implies_true, nI_add, nI_clamp, zi_in, zi_le_t, zi_le_f, zi_lt_t, zi_lt_f, zi_eq_t, zi_eq_f, nI_leI, nI_ltI, nI_eq, z_in, pk_mul, zu_same, zu_rw, zu_ix, zi_ne0, zi_sub, zi_m1, Nat.add_sub_cancel, Nat.reduceMul, Nat.reduceSub, q4]
theorem zX10_sign (hM : isM h b) (hK : mTK b S L K) (hl : K.length ≤ 400) {i u : Nat} (hu : u < 256) (d : Int32) :
    zM l E 1 YX10_sign [.ref b, .int (nI i), .int (nI u), .int d] (z, h, S, L) 0 0 (fun r X => r = some (.int (nI 1)) ∧ ∃ S' L', X = (z, h, S', L') ∧ zfr [3, 4, 5] [10] b S S' ∧ (∀ a, a ≠ b + 6 → L' a = L a) ∧ mTK b S' L' (K ++ [(sgK u, i, 0, [])])) (fun _ _ => False) := by
  have h0l : (0 : Int64) = lN (hsL []) := rfl
  refine zM.go rfl rfl (Nat.le_of_ble_eq_true rfl) (ls := [some (.ref b), some (.int (nI i)), some (.int (nI u)), some (.int d), none]) rfl ?_
  intro V hVl hVE hVd hVc hVs hVQ hVX
  have fin : zC V YX10_token [.ref b, .int (nI (sgK u)), .int (nI i), .int (nI 0), .long (lN (hsL []))] (z, h, S, L) 0 0 (fun r X k n => zW V YX10_sign 104 [some (.ref b), some (.int (nI i)), some (.int (nI u)), some (.int d), some (.int (nI (sgK u)))] (r.toList ++ []) X k n) (zOut V [some (.ref b), some (.int (nI i)), some (.int (nI u)), some (.int d), some (.int (nI (sgK u)))]) := by
    refine zC.of0 (zX10_token hM hK hl _ _ _ _) (by omega) (Nat.zero_le _) (Nat.zero_le _) ?_
    rintro _ _ ⟨rfl, S1, L1, rfl, hf1, hL1, hK1⟩
    refine sX10_sign_104 _ _ _ _ _ ?_
    simp (disch := omega) only [oPush, oRI, List.getElem?_cons_zero, List.getElem?_cons_succ, List.set_cons_zero, List.set_cons_succ, List.drop_succ_cons, List.drop_zero, List.take_succ_cons, List.take_zero, List.length_cons, List.length_nil, List.reverse_cons, List.reverse_nil, List.nil_append, List.cons_append, Option.toList_some, Option.toList_none, va_rf_s, true_and, and_true, true_implies, false_implies, not_true_eq_false, not_false_eq_true, Nat.reduceAdd, Nat.reduceLeDiff, Nat.le_add_left, Nat.zero_le, Nat.le_refl, znew, true_or, or_true, b01_t, b01_f, b01_ok, bool_ft, vp_b01, vp_b0, vp_b1, b01_eq0, b01_eq1, implies_true, nI_add, nI_clamp, zi_in, zi_le_t, zi_le_f, zi_lt_t, zi_lt_f, zi_eq_t, zi_eq_f, nI_leI, nI_ltI, nI_eq, z_in, pk_mul, zu_same, zu_rw, zu_ix, zi_ne0, zi_sub, zi_m1, Nat.add_sub_cancel, Nat.reduceMul, Nat.reduceSub]
    exact hVQ _ _ ⟨rfl, S1, L1, rfl, hf1, hL1, hK1⟩
  have h85 : ∀ k, (u ≠ 60 → k = sgK u) → zW V YX10_sign 85 [some (.ref b), some (.int (nI i)), some (.int (nI u)), some (.int d), some (.int (nI k))] [] (z, h, S, L) 0 0 := by
    intro k hk
    by_cases hu : u = 60
    · have e : nI 13 = nI (sgK u) := by subst hu; rfl
      refine sX10_sign_85 _ _ _ _ _ ?_
      simp (disch := omega) only [oAld, oCV, oIfc, oIld, oIst, oPush, hM.1, h0l, e, List.getElem?_cons_zero, List.getElem?_cons_succ, List.set_cons_zero, List.set_cons_succ, List.drop_succ_cons, List.drop_zero, List.take_succ_cons, List.take_zero, List.length_cons, List.length_nil, List.reverse_cons, List.reverse_nil, List.nil_append, List.cons_append, Option.toList_some, Option.toList_none, va_rf_s, true_and, and_true, true_implies, false_implies, not_true_eq_false, not_false_eq_true, Nat.reduceAdd, Nat.reduceLeDiff, Nat.le_add_left, Nat.zero_le, Nat.le_refl, znew, true_or, or_true, b01_t, b01_f, b01_ok, bool_ft, vp_b01, vp_b0, vp_b1, b01_eq0, b01_eq1, implies_true, nI_add, nI_clamp, zi_in, zi_le_t, zi_le_f, zi_lt_t, zi_lt_f, zi_eq_t, zi_eq_f, nI_leI, nI_ltI, nI_eq, z_in, pk_mul, zu_same, zu_rw, zu_ix, zi_ne0, zi_sub, zi_m1, Nat.add_sub_cancel, Nat.reduceMul, Nat.reduceSub]
      exact fin
    · rw [hk hu]
      refine sX10_sign_85 _ _ _ _ _ ?_
      simp (disch := omega) only [oAld, oCV, oIfc, oIld, oIst, oPush, hM.1, h0l, List.getElem?_cons_zero, List.getElem?_cons_succ, List.set_cons_zero, List.set_cons_succ, List.drop_succ_cons, List.drop_zero, List.take_succ_cons, List.take_zero, List.length_cons, List.length_nil, List.reverse_cons, List.reverse_nil, List.nil_append, List.cons_append, Option.toList_some, Option.toList_none, va_rf_s, true_and, and_true, true_implies, false_implies, not_true_eq_false, not_false_eq_true, Nat.reduceAdd, Nat.reduceLeDiff, Nat.le_add_left, Nat.zero_le, Nat.le_refl, znew, true_or, or_true, b01_t, b01_f, b01_ok, bool_ft, vp_b01, vp_b0, vp_b1, b01_eq0, b01_eq1, implies_true, nI_add, nI_clamp, zi_in, zi_le_t, zi_le_f, zi_lt_t, zi_lt_f, zi_eq_t, zi_eq_f, nI_leI, nI_ltI, nI_eq, z_in, pk_mul, zu_same, zu_rw, zu_ix, zi_ne0, zi_sub, zi_m1, Nat.add_sub_cancel, Nat.reduceMul, Nat.reduceSub]
      exact fin
  have h75 : ∀ k, (u ≠ 60 → u ≠ 47 → k = sgK u) → zW V YX10_sign 75 [some (.ref b), some (.int (nI i)), some (.int (nI u)), some (.int d), some (.int (nI k))] [] (z, h, S, L) 0 0 := by
    intro k hk
    refine sX10_sign_75 _ _ _ _ _ ?_
    simp (disch := omega) only [oIfc, oIld, oIst, oPush, List.getElem?_cons_zero, List.getElem?_cons_succ, List.set_cons_zero, List.set_cons_succ, List.drop_succ_cons, List.drop_zero, List.take_succ_cons, List.take_zero, List.length_cons, List.length_nil, List.reverse_cons, List.reverse_nil, List.nil_append, List.cons_append, Option.toList_some, Option.toList_none, va_rf_s, true_and, and_true, true_implies, false_implies, not_true_eq_false, not_false_eq_true, Nat.reduceAdd, Nat.reduceLeDiff, Nat.le_add_left, Nat.zero_le, Nat.le_refl, znew, true_or, or_true, b01_t, b01_f, b01_ok, bool_ft, vp_b01, vp_b0, vp_b1, b01_eq0, b01_eq1, implies_true, nI_add, nI_clamp, zi_in, zi_le_t, zi_le_f, zi_lt_t, zi_lt_f, zi_eq_t, zi_eq_f, nI_leI, nI_ltI, nI_eq, z_in, pk_mul, zu_same, zu_rw, zu_ix, zi_ne0, zi_sub, zi_m1, Nat.add_sub_cancel, Nat.reduceMul, Nat.reduceSub]
    exact ⟨fun q => h85 15 (fun _ => by subst q; rfl), fun q => h85 k (fun q1 => hk q1 q)⟩
  have h65 : ∀ k, (u ≠ 60 → u ≠ 47 → u ≠ 42 → k = sgK u) → zW V YX10_sign 65 [some (.ref b), some (.int (nI i)), some (.int (nI u)), some (.int d), some (.int (nI k))] [] (z, h, S, L) 0 0 := by
    intro k hk
    refine sX10_sign_65 _ _ _ _ _ ?_
    simp (disch := omega) only [oIfc, oIld, oIst, oPush, List.getElem?_cons_zero, List.getElem?_cons_succ, List.set_cons_zero, List.set_cons_succ, List.drop_succ_cons, List.drop_zero, List.take_succ_cons, List.take_zero, List.length_cons, List.length_nil, List.reverse_cons, List.reverse_nil, List.nil_append, List.cons_append, Option.toList_some, Option.toList_none, va_rf_s, true_and, and_true, true_implies, false_implies, not_true_eq_false, not_false_eq_true, Nat.reduceAdd, Nat.reduceLeDiff, Nat.le_add_left, Nat.zero_le, Nat.le_refl, znew, true_or, or_true, b01_t, b01_f, b01_ok, bool_ft, vp_b01, vp_b0, vp_b1, b01_eq0, b01_eq1, implies_true, nI_add, nI_clamp, zi_in, zi_le_t, zi_le_f, zi_lt_t, zi_lt_f, zi_eq_t, zi_eq_f, nI_leI, nI_ltI, nI_eq, z_in, pk_mul, zu_same, zu_rw, zu_ix, zi_ne0, zi_sub, zi_m1, Nat.add_sub_cancel, Nat.reduceMul, Nat.reduceSub]
    exact ⟨fun q => h75 10 (fun _ _ => by subst q; rfl), fun q => h75 k (fun q1 q2 => hk q1 q2 q)⟩
  have h55 : ∀ k, (u ≠ 60 → u ≠ 47 → u ≠ 42 → u ≠ 45 → k = sgK u) → zW V YX10_sign 55 [some (.ref b), some (.int (nI i)), some (.int (nI u)), some (.int d), some (.int (nI k))] [] (z, h, S, L) 0 0 := by
    intro k hk
    refine sX10_sign_55 _ _ _ _ _ ?_
    simp (disch := omega) only [oIfc, oIld, oIst, oPush, List.getElem?_cons_zero, List.getElem?_cons_succ, List.set_cons_zero, List.set_cons_succ, List.drop_succ_cons, List.drop_zero, List.take_succ_cons, List.take_zero, List.length_cons, List.length_nil, List.reverse_cons, List.reverse_nil, List.nil_append, List.cons_append, Option.toList_some, Option.toList_none, va_rf_s, true_and, and_true, true_implies, false_implies, not_true_eq_false, not_false_eq_true, Nat.reduceAdd, Nat.reduceLeDiff, Nat.le_add_left, Nat.zero_le, Nat.le_refl, znew, true_or, or_true, b01_t, b01_f, b01_ok, bool_ft, vp_b01, vp_b0, vp_b1, b01_eq0, b01_eq1, implies_true, nI_add, nI_clamp, zi_in, zi_le_t, zi_le_f, zi_lt_t, zi_lt_f, zi_eq_t, zi_eq_f, nI_leI, nI_ltI, nI_eq, z_in, pk_mul, zu_same, zu_rw, zu_ix, zi_ne0, zi_sub, zi_m1, Nat.add_sub_cancel, Nat.reduceMul, Nat.reduceSub]
    exact ⟨fun q => h65 9 (fun _ _ _ => by subst q; rfl), fun q => h65 k (fun q1 q2 q3 => hk q1 q2 q3 q)⟩
  have h43 : ∀ k, (u ≠ 60 → u ≠ 47 → u ≠ 42 → u ≠ 45 → u ≠ 43 → k = sgK u) → zW V YX10_sign 43 [some (.ref b), some (.int (nI i)), some (.int (nI u)), some (.int d), none] [.int (nI k)] (z, h, S, L) 0 0 := by
    intro k hk
    refine sX10_sign_43 _ _ _ _ _ ?_
    simp (disch := omega) only [oIfc, oIld, oIst, oPush, List.getElem?_cons_zero, List.getElem?_cons_succ, List.set_cons_zero, List.set_cons_succ, List.drop_succ_cons, List.drop_zero, List.take_succ_cons, List.take_zero, List.length_cons, List.length_nil, List.reverse_cons, List.reverse_nil, List.nil_append, List.cons_append, Option.toList_some, Option.toList_none, va_rf_s, true_and, and_true, true_implies, false_implies, not_true_eq_false, not_false_eq_true, Nat.reduceAdd, Nat.reduceLeDiff, Nat.le_add_left, Nat.zero_le, Nat.le_refl, znew, true_or, or_true, b01_t, b01_f, b01_ok, bool_ft, vp_b01, vp_b0, vp_b1, b01_eq0, b01_eq1, implies_true, nI_add, nI_clamp, zi_in, zi_le_t, zi_le_f, zi_lt_t, zi_lt_f, zi_eq_t, zi_eq_f, nI_leI, nI_ltI, nI_eq, z_in, pk_mul, zu_same, zu_rw, zu_ix, zi_ne0, zi_sub, zi_m1, Nat.add_sub_cancel, Nat.reduceMul, Nat.reduceSub]
    exact ⟨fun q => h55 8 (fun _ _ _ _ => by subst q; rfl), fun q => h55 k (fun q1 q2 q3 q4 => hk q1 q2 q3 q4 q)⟩
  refine sX10_sign_0 _ _ _ _ _ ?_
  simp (disch := omega) only [oIfc, oIld, oNop, oPush, List.getElem?_cons_zero, List.getElem?_cons_succ, List.set_cons_zero, List.set_cons_succ, List.drop_succ_cons, List.drop_zero, List.take_succ_cons, List.take_zero, List.length_cons, List.length_nil, List.reverse_cons, List.reverse_nil, List.nil_append, List.cons_append, Option.toList_some, Option.toList_none, va_rf_s, true_and, and_true, true_implies, false_implies, not_true_eq_false, not_false_eq_true, Nat.reduceAdd, Nat.reduceLeDiff, Nat.le_add_left, Nat.zero_le, Nat.le_refl, znew, true_or, or_true, b01_t, b01_f, b01_ok, bool_ft, vp_b01, vp_b0, vp_b1, b01_eq0, b01_eq1, implies_true, nI_add, nI_clamp, zi_in, zi_le_t, zi_le_f, zi_lt_t, zi_lt_f, zi_eq_t, zi_eq_f, nI_leI, nI_ltI, nI_eq, z_in, pk_mul, zu_same, zu_rw, zu_ix, zi_ne0, zi_sub, zi_m1, Nat.add_sub_cancel, Nat.reduceMul, Nat.reduceSub]
  refine ⟨fun q => h43 4 (fun _ _ _ _ _ => by subst q; rfl), fun q1 => ⟨fun q => h43 5 (fun _ _ _ _ _ => by subst q; rfl), fun q2 => ⟨fun q => h43 6 (fun _ _ _ _ _ => by subst q; rfl), fun q3 => ⟨fun q => h43 7 (fun _ _ _ _ _ => by subst q; rfl), fun q4 => h43 3 (fun q5 q6 q7 q8 q9 => ?_)⟩⟩⟩⟩
  rw [sgK, if_neg q1, if_neg q2, if_neg q3, if_neg q4, if_neg q9, if_neg q8, if_neg q7, if_neg q6, if_neg q5]
end MS
