/-! light so far -/
section LZ
variable {t : ZT} {T R : Nat → Int32}
def laB (T R : Nat → Int32) (y cn j : Nat) : Bool := (!outF T j || decide (j < y)) && decide (R j = nI cn)
def laA (t : ZT) (T R : Nat → Int32) (y cn : Nat) : Int32 := sumI (fun j => if laB T R y cn j = true then T (6 + j) else nI 0) (tny t)
theorem sumI_upd {f g : Nat → Int32} {y : Nat} : ∀ {n : Nat}, y < n → (∀ j, j < n → j ≠ y → f j = g j) → g y = nI 0 → sumI f n = sumI g n + f y
  | 0, h, _, _ => absurd h (by omega)
  | n + 1, hy, he, h0 => by
    rw [sumI, sumI]
    by_cases e : y = n
    · subst e
      rw [sumI_ext (f := f) (g := g) (fun k hk => he k (by omega) (by omega)), h0, i_add0]
    · rw [sumI_upd (n := n) (by omega) (fun j hj => he j (by omega)) h0, he n (by omega) (fun q => e q.symm), Int32.add_assoc, Int32.add_comm (f y), ← Int32.add_assoc]
theorem light_sum (c : Int32) : ∀ n, lightF n R c = sumI (fun j => if R j = c then R (6 + j) else nI 0) n
  | 0 => rfl
  | n + 1 => by
    rw [lightF, sumI, ← light_sum c n]
    by_cases h : R n = c
    · rw [if_pos h, if_pos h]
    · rw [if_neg h, if_neg h, i_add0]
theorem la_full {cn : Nat} (h6 : ∀ j, j < tny t → R (6 + j) = T (6 + j)) : laA t T R (tny t) cn = lightF (tny t) R (nI cn) := by
  rw [light_sum]
  refine sumI_ext (fun j hj => ?_)
  have e : laB T R (tny t) cn j = decide (R j = nI cn) := by unfold laB; rw [decide_eq_true hj, Bool.or_true, Bool.true_and]
  show (if laB T R (tny t) cn j = true then T (6 + j) else nI 0) = _
  rw [e, h6 j hj]
  by_cases h : R j = nI cn
  · rw [decide_eq_true h, if_pos rfl, if_pos h]
  · rw [decide_eq_false h, if_neg (by decide), if_neg h]
theorem la_home {y cn : Nat} (ho : outF T y = false) : laA t T R (y + 1) cn = laA t T R y cn := by
  refine sumI_ext (fun j hj => ?_)
  have e : laB T R (y + 1) cn j = laB T R y cn j := by
    unfold laB
    by_cases h : j = y
    · rw [h, ho]; rfl
    · have : (j < y + 1) = (j < y) := propext (by omega)
      simp only [this]
  show (if laB T R (y + 1) cn j = true then T (6 + j) else nI 0) = _
  rw [e]
theorem la_add {R' : Nat → Int32} {y cn q : Nat} (hy : y < tny t) (ho : outF T y = true) (hq : q < 1000) (hcn : cn < 1000) (e1 : R' y = nI q) (e2 : ∀ j, j ≠ y → R' j = R j) : laA t T R' (y + 1) cn = laA t T R y cn + (if cn = q then T (6 + y) else nI 0) := by
  have he : ∀ j, j < tny t → j ≠ y → (if laB T R' (y + 1) cn j = true then T (6 + j) else nI 0) = (if laB T R y cn j = true then T (6 + j) else nI 0) := fun j hj hne => by
    have : laB T R' (y + 1) cn j = laB T R y cn j := by
      unfold laB
      have q : (j < y + 1) = (j < y) := propext (by omega)
      rw [e2 j hne]; simp only [q]
    rw [this]
  have h0 : (if laB T R y cn y = true then T (6 + y) else nI 0) = nI 0 := by
    have : laB T R y cn y = false := by unfold laB; rw [ho, decide_eq_false (by omega)]; rfl
    rw [this]; rfl
  have h1 : (if laB T R' (y + 1) cn y = true then T (6 + y) else nI 0) = if cn = q then T (6 + y) else nI 0 := by
    have : laB T R' (y + 1) cn y = decide (cn = q) := by
      unfold laB
      rw [e1, decide_eq_true (show y < y + 1 by omega), Bool.or_true, Bool.true_and]
      congr 1
      rw [nI_eq (by omega) (by omega)]
      exact propext ⟨Eq.symm, Eq.symm⟩
    rw [this]
    by_cases h : cn = q
    · rw [if_pos h, decide_eq_true h, if_pos rfl]
    · rw [if_neg h, decide_eq_false h, if_neg (by decide)]
  rw [← h1]
  exact sumI_upd (f := fun j => if laB T R' (y + 1) cn j = true then T (6 + j) else nI 0) (g := fun j => if laB T R y cn j = true then T (6 + j) else nI 0) hy he h0
end LZ
