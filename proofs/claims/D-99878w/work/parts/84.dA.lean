/-! the component: laysFrom, best -/
section DA
variable {l : Launch} {E : zE} {z : Nat} {h : Nat → Option zSh} {S : Nat → Nat → Int32} {L : Nat → Nat → Int64} {c D ta : Nat} {t : ZT} {q0 T : Nat → Int32} {A : zTA}
/-- what stands between two calls: the digits of the ways up to k for the young ones below y, the light so far, the best so far -/
def lyS (c : Nat) (t : ZT) (T : Nat → Int32) (S0 S : Nat → Nat → Int32) (y k k' : Nat) : Prop :=
  cqF c S0 S ∧ (∀ a, a ≠ c → a ≠ c + 27 → a ≠ c + 71 → a ≠ c + 72 → S a = S0 a) ∧ (∀ j, j < tny t → outF T j = false → S (c + 27) j = T j) ∧ (∀ j, j < y → outF T j = true → S (c + 27) j = nI (dig t T k j)) ∧ (∀ q, q < tnc t → S (c + 72) q = laA t T (S (c + 27)) y q) ∧ S c 15 = (bsW t T k').1 ∧ (0 < k' → ∀ j, j < tny t → outF T j = true → S (c + 71) j = (bsW t T k').2 j)
theorem bs_nm {t : ZT} {T : Nat → Int32} (h10 : tns t ≤ 10) : ∀ k, (bsW t T k).1 = -1 ∨ ∃ q, (bsW t T k).1 = nI q ∧ q ≤ tns t
  | 0 => Or.inl rfl
  | k + 1 => by
    by_cases h : (bsW t T k).1 < nwy t T k
    · rw [bsW_t h]; exact Or.inr (nwy_le h10 k)
    · rw [bsW_f h]; exact bs_nm h10 k
/-- the count of a leaf -/
theorem nwy_cnt {t : ZT} {T : Nat → Int32} (h10 : tns t ≤ 10) (w : Nat) : nwy t T w = nI (cntN (fun s => decide (tlo t s ≤ lightF (tny t) (asn t T w) (nI (tone t s)) + lightF (tny t) (asn t T w) (nI (toth t s)))) (tns t)) := by
  unfold nwy litR
  rw [bitsF_N _ (by omega)]
  congr 1
  have : ∀ p : Nat → Bool, ∀ n, n ≤ 10 → cntN (bt (setF p (tns t))) n = cntN p (min n (tns t)) := by
    intro p n
    induction n with
    | zero => intro _; rw [Nat.zero_min]; rfl
    | succ n ih =>
      intro hn
      have hb := bt_setF p (n := tns t) (i := n) (by omega) (by omega)
      by_cases hlt : n < tns t
      · rw [decide_eq_true hlt, Bool.true_and] at hb
        have ih := ih (by omega)
        rw [Nat.min_eq_left (by omega)] at ih
        rw [Nat.min_eq_left (by omega), cntN, cntN, hb, ih]
      · rw [decide_eq_false hlt, Bool.false_and] at hb
        have ih := ih (by omega)
        rw [Nat.min_eq_right (by omega)] at ih
        rw [Nat.min_eq_right (by omega), cntN, hb, ih]; rfl
  rw [this _ 10 (by omega), Nat.min_eq_right h10]
end DA
