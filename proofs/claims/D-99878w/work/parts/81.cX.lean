/-! ways to stand, by number -/
section BX
variable {t : ZT} {T : Nat → Int32}
/-- how many ways for the last m young ones -/
def wyL (t : ZT) (T : Nat → Int32) : Nat → Nat
  | 0 => 1
  | m + 1 => if outF T (tny t - m - 1) = true then tnc t * wyL t T m else wyL t T m
theorem wyL_pos (hn : 0 < tnc t) : ∀ m, 0 < wyL t T m
  | 0 => Nat.zero_lt_one
  | m + 1 => by
    rw [wyL]
    split
    · exact Nat.mul_pos hn (wyL_pos hn m)
    · exact wyL_pos hn m
theorem lfM_W {way : Nat} : ∀ m, lfM t T way m = way / wyL t T m
  | 0 => by rw [lfM, wyL, Nat.div_one]
  | m + 1 => by
    rw [lfM, wyL, lfM_W m]
    split
    · rw [Nat.div_div_eq_div_mul, Nat.mul_comm]
    · rfl
theorem dig_W {way y : Nat} : dig t T way y = way / wyL t T (tny t - 1 - y) % tnc t := by unfold dig; rw [lfM_W]
theorem wyL_split : ∀ d m, ∃ M, wyL t T (m + d) = M * wyL t T m
  | 0, m => ⟨1, by rw [Nat.one_mul]; rfl⟩
  | d + 1, m => by
    obtain ⟨M, e⟩ := wyL_split d m
    rw [← Nat.add_assoc, wyL, e]
    split
    · exact ⟨tnc t * M, by rw [Nat.mul_assoc]⟩
    · exact ⟨M, rfl⟩
/-- the ways before a young one, times those from it on -/
theorem wy_all : ∀ y, y ≤ tny t → wyN t T y * wyL t T (tny t - y) = wyL t T (tny t)
  | 0, _ => by rw [wyN, Nat.one_mul, Nat.sub_zero]
  | y + 1, hy => by
    have ih := wy_all y (by omega)
    have e : tny t - y = (tny t - (y + 1)) + 1 := by omega
    have e2 : tny t - (tny t - (y + 1)) - 1 = y := by omega
    rw [e, wyL, e2] at ih
    rw [wyN]
    by_cases h : outF T y = true
    · rw [if_pos h] at ih ⊢
      rw [Nat.mul_assoc]; exact ih
    · rw [if_neg h] at ih ⊢
      exact ih
theorem wy_top : wyN t T (tny t) = wyL t T (tny t) := by
  have := wy_all (t := t) (T := T) (tny t) (Nat.le_refl _)
  rw [Nat.sub_self, wyL, Nat.mul_one] at this
  exact this
/-- the digit of the young one y -/
theorem dig_y (hn : 0 < tnc t) {p q m : Nat} (hq : q < tnc t) (hm : m < tny t) : dig t T ((p * tnc t + q) * wyL t T m) (tny t - 1 - m) = q := by
  rw [dig_W, show tny t - 1 - (tny t - 1 - m) = m by omega, Nat.mul_div_cancel _ (wyL_pos hn m), Nat.mul_comm, Nat.mul_add_mod, Nat.mod_eq_of_lt hq]
/-- earlier digits do not change -/
theorem dig_e (hn : 0 < tnc t) {p q m j : Nat} (hq : q < tnc t) (hm : m < tny t) (ho : outF T (tny t - m - 1) = true) (hj : j < tny t - 1 - m) : dig t T ((p * tnc t + q) * wyL t T m) j = dig t T (p * wyL t T (m + 1)) j := by
  rw [dig_W, dig_W]
  obtain ⟨M, e⟩ := wyL_split (t := t) (T := T) (tny t - 1 - j - (m + 1)) (m + 1)
  rw [show m + 1 + (tny t - 1 - j - (m + 1)) = tny t - 1 - j by omega] at e
  have e1 : wyL t T (m + 1) = tnc t * wyL t T m := by rw [wyL, if_pos ho]
  rw [e, e1]
  have hp := wyL_pos (T := T) hn m
  have hp2 : 0 < tnc t * wyL t T m := Nat.mul_pos hn hp
  have hb : p * (tnc t * wyL t T m) / (M * (tnc t * wyL t T m)) = p / M := Nat.mul_div_mul_right _ _ hp2
  have ha : (p * tnc t + q) * wyL t T m / (M * (tnc t * wyL t T m)) = p / M := by
    rw [← Nat.mul_assoc, Nat.mul_div_mul_right _ _ hp, Nat.mul_comm M, ← Nat.div_div_eq_div_mul, Nat.mul_comm p, Nat.mul_add_div hn, Nat.div_eq_of_lt hq, Nat.add_zero]
  rw [ha, hb]
/-- nothing is better than all streets -/
theorem nwy_le (h10 : tns t ≤ 10) (w : Nat) : ∃ q, nwy t T w = nI q ∧ q ≤ tns t := by
  unfold nwy litR
  rw [bitsF_N _ (by omega)]
  refine ⟨_, rfl, ?_⟩
  have : ∀ n, n ≤ 10 → ∀ p : Nat → Bool, cntN (bt (setF p (tns t))) n ≤ min n (tns t) := by
    intro n
    induction n with
    | zero => intro _ p; exact Nat.zero_le _
    | succ n ih =>
      intro hn p
      have := ih (by omega) p
      rw [cntN]
      by_cases hlt : n < tns t
      · split <;> omega
      · rw [if_neg (by rw [bt_setF _ (by omega) (by omega), decide_eq_false hlt, Bool.false_and]; decide)]; omega
  have := this 10 (by omega) (fun s => decide (tlo t s ≤ lightF (tny t) (asn t T w) (nI (tone t s)) + lightF (tny t) (asn t T w) (nI (toth t s))))
  omega
theorem bs_full (h10 : tns t ≤ 10) {k : Nat} (h : nI (tns t) ≤ (bsW t T k).1) : ∀ d, bsW t T (k + d) = bsW t T k
  | 0 => rfl
  | d + 1 => by
    have ih := bs_full h10 h d
    obtain ⟨q, e, hq⟩ := nwy_le (t := t) (T := T) h10 (k + d)
    rw [← Nat.add_assoc, bsW_f, ih]
    rw [ih, e]
    intro hlt
    rw [Int32.lt_iff_toInt_lt, nI_toInt (by omega)] at hlt
    rw [Int32.le_iff_toInt_le, nI_toInt (by omega)] at h
    omega
end BX
