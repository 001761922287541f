/-! ways: as many rounds as corners are enough -/
section FS
variable {t : ZT} {fr sh : Nat → Bool} {g : Nat → Nat} {p : Nat → Bool}
def stB (t : ZT) : Prop := ∀ s, s < tns t → tone t s < tnc t ∧ toth t s < tnc t ∧ tone t s ≠ toth t s
def wS (fr : Nat → Bool) (s : Nat) : Nat := if fr s = true then 0 else 1
theorem frA_v {a b w j : Nat} : frA g a b w j = if j = b then min (g b) (g a + w) else g j := by
  unfold frA
  split
  · unfold upN
    by_cases hj : j = b
    · rw [if_pos hj, if_pos hj]; omega
    · rw [if_neg hj, if_neg hj]
  · by_cases hj : j = b
    · rw [if_pos hj, hj]; omega
    · rw [if_neg hj]
theorem frS_t {s : Nat} (h : sh s = true) : frS t fr sh s g = g := by unfold frS; rw [if_pos h]
theorem frS_v {s j : Nat} (h : sh s = false) (hab : tone t s ≠ toth t s) : frS t fr sh s g j = if j = tone t s then min (g (tone t s)) (g (toth t s) + wS fr s) else if j = toth t s then min (g (toth t s)) (g (tone t s) + wS fr s) else g j := by
  unfold frS wS
  rw [if_neg (by rw [h]; decide), frA_v, frA_v, frA_v, frA_v]
  generalize (if fr s = true then 0 else 1) = w
  rw [if_pos rfl, if_neg hab]
  by_cases h1 : j = tone t s
  · rw [if_pos h1, if_pos h1]; omega
  · rw [if_neg h1, if_neg h1]
def fP (n : Nat) (p : Nat → Bool) (g : Nat → Nat) : Prop := ∀ u v, u < n → v < n → p u = true → p v = false → g u ≤ g v
def fQ (t : ZT) (fr sh p : Nat → Bool) (g : Nat → Nat) : Prop := ∀ s, s < tns t → sh s = false → (p (tone t s) = true → g (toth t s) ≤ g (tone t s) + wS fr s) ∧ (p (toth t s) = true → g (tone t s) ≤ g (toth t s) + wS fr s)
/-- what stays: the set's values, nothing grows, nothing outside falls below m -/
def fK (n : Nat) (p : Nat → Bool) (g g' : Nat → Nat) : Prop := (∀ u, u < n → p u = true → g' u = g u) ∧ (∀ j, g' j ≤ g j) ∧ (∀ m, (∀ v, v < n → p v = false → m ≤ g v) → ∀ v, v < n → p v = false → m ≤ g' v)
theorem fK.tr {n : Nat} {g' g'' : Nat → Nat} (h : fK n p g g') (h' : fK n p g' g'') : fK n p g g'' := ⟨fun u hu hp => (h'.1 u hu hp).trans (h.1 u hu hp), fun j => Nat.le_trans (h'.2.1 j) (h.2.1 j), fun m hm => h'.2.2 m (h.2.2 m hm)⟩
theorem fK.P {n : Nat} {g' : Nat → Nat} (h : fK n p g g') (hP : fP n p g) : fP n p g' := fun u v hu hv hpu hpv => by
  rw [h.1 u hu hpu]
  exact h.2.2 (g u) (fun w hw hpw => hP u w hu hw hpu hpw) v hv hpv
theorem fK.Q {g' : Nat → Nat} (hst : stB t) (h : fK (tnc t) p g g') (hQ : fQ t fr sh p g) : fQ t fr sh p g' := fun s hs hsh => by
  obtain ⟨h1, h2, -⟩ := hst s hs
  obtain ⟨q1, q2⟩ := hQ s hs hsh
  refine ⟨fun hp => ?_, fun hp => ?_⟩
  · rw [h.1 _ h1 hp]; exact Nat.le_trans (h.2.1 _) (q1 hp)
  · rw [h.1 _ h2 hp]; exact Nat.le_trans (h.2.1 _) (q2 hp)
theorem frS_K (hst : stB t) (hP : fP (tnc t) p g) (hQ : fQ t fr sh p g) {s : Nat} (hs : s < tns t) : fK (tnc t) p g (frS t fr sh s g) := by
  cases hsh : sh s with
  | true => rw [frS_t hsh]; exact ⟨fun _ _ _ => rfl, fun _ => Nat.le_refl _, fun _ hm => hm⟩
  | false =>
    obtain ⟨h1, h2, h3⟩ := hst s hs
    obtain ⟨q1, q2⟩ := hQ s hs hsh
    have v := fun j => frS_v (t := t) (fr := fr) (g := g) (j := j) hsh h3
    refine ⟨fun u hu hp => ?_, fun j => ?_, fun m hm w hw hpw => ?_⟩
    · rw [v]
      by_cases e1 : u = tone t s
      · rw [if_pos e1]
        rw [e1] at hp ⊢
        cases hb : p (toth t s) with
        | true => have := q2 hb; omega
        | false => have := hP _ _ h1 h2 hp hb; omega
      · rw [if_neg e1]
        by_cases e2 : u = toth t s
        · rw [if_pos e2]
          rw [e2] at hp ⊢
          cases hb : p (tone t s) with
          | true => have := q1 hb; omega
          | false => have := hP _ _ h2 h1 hp hb; omega
        · rw [if_neg e2]
    · rw [v]
      by_cases e1 : j = tone t s
      · rw [if_pos e1, e1]; omega
      · rw [if_neg e1]
        by_cases e2 : j = toth t s
        · rw [if_pos e2, e2]; omega
        · rw [if_neg e2]; omega
    · rw [v]
      by_cases e1 : w = tone t s
      · rw [if_pos e1]
        have := hm w hw hpw
        rw [e1] at this hpw
        cases hb : p (toth t s) with
        | true => have := q2 hb; omega
        | false => have := hm _ h2 hb; omega
      · rw [if_neg e1]
        by_cases e2 : w = toth t s
        · rw [if_pos e2]
          have := hm w hw hpw
          rw [e2] at this hpw
          cases hb : p (tone t s) with
          | true => have := q1 hb; omega
          | false => have := hm _ h1 hb; omega
        · rw [if_neg e2]; exact hm w hw hpw
theorem frR_K (hst : stB t) (hP : fP (tnc t) p g) (hQ : fQ t fr sh p g) : ∀ s, s ≤ tns t → fK (tnc t) p g (frR t fr sh s g)
  | 0, _ => ⟨fun _ _ _ => rfl, fun _ => Nat.le_refl _, fun _ hm => hm⟩
  | s + 1, hs => by
    have ih := frR_K hst hP hQ s (by omega)
    exact ih.tr (frS_K hst (ih.P hP) (ih.Q hst hQ) (by omega))
/-- the least one outside is settled by a round -/
theorem frR_min (hst : stB t) (hP : fP (tnc t) p g) (hQ : fQ t fr sh p g) {v : Nat} (hv : v < tnc t) (hpv : p v = false) (hm : ∀ w, w < tnc t → p w = false → g v ≤ g w) : ∀ s, s ≤ tns t → ∀ s', s' < s → sh s' = false → (v = tone t s' → frR t fr sh s g (toth t s') ≤ g v + wS fr s') ∧ (v = toth t s' → frR t fr sh s g (tone t s') ≤ g v + wS fr s')
  | 0, _ => fun s' hs' => absurd hs' (by omega)
  | s + 1, hs => fun s' hs' hsh => by
    have hK := frR_K hst hP hQ s (by omega)
    have hK1 := frS_K hst (hK.P hP) (hK.Q hst hQ) (show s < tns t by omega)
    have e : frR t fr sh (s + 1) g = frS t fr sh s (frR t fr sh s g) := rfl
    by_cases he : s' = s
    · subst he
      obtain ⟨h1, h2, h3⟩ := hst s' (by omega)
      have hvv := hK.2.1 v
      rw [e]
      refine ⟨fun q => ?_, fun q => ?_⟩
      · rw [frS_v hsh h3, if_neg (Ne.symm h3), if_pos rfl, ← q]; omega
      · rw [frS_v hsh h3, if_pos rfl, ← q]; omega
    · obtain ⟨i1, i2⟩ := frR_min hst hP hQ hv hpv hm s (by omega) s' (by omega) hsh
      rw [e]
      exact ⟨fun q => Nat.le_trans (hK1.2.1 _) (i1 q), fun q => Nat.le_trans (hK1.2.1 _) (i2 q)⟩
theorem least_out (g : Nat → Nat) (p : Nat → Bool) : ∀ n, (∀ v, v < n → p v = true) ∨ ∃ v, v < n ∧ p v = false ∧ ∀ w, w < n → p w = false → g v ≤ g w
  | 0 => Or.inl (fun v hv => absurd hv (by omega))
  | n + 1 => by
    rcases least_out g p n with h | ⟨v, hv, hpv, hm⟩
    · cases hp : p n with
      | true => exact Or.inl (fun v hv => by by_cases e : v = n; · rw [e]; exact hp
                                             · exact h v (by omega))
      | false => exact Or.inr ⟨n, by omega, hp, fun w hw hpw => by
          by_cases e : w = n
          · rw [e]; omega
          · rw [h w (by omega)] at hpw; cases hpw⟩
    · cases hp : p n with
      | true => exact Or.inr ⟨v, by omega, hpv, fun w hw hpw => by
          by_cases e : w = n
          · rw [e, hp] at hpw; cases hpw
          · exact hm w (by omega) hpw⟩
      | false =>
        by_cases hle : g v ≤ g n
        · exact Or.inr ⟨v, by omega, hpv, fun w hw hpw => by
            by_cases e : w = n
            · rw [e]; exact hle
            · exact hm w (by omega) hpw⟩
        · exact Or.inr ⟨n, by omega, hp, fun w hw hpw => by
            by_cases e : w = n
            · rw [e]; omega
            · have := hm w (by omega) hpw; omega⟩
theorem fr_set (hst : stB t) : ∀ k, ∃ p, fP (tnc t) p (frN t fr sh k g) ∧ fQ t fr sh p (frN t fr sh k g) ∧ ((∀ v, v < tnc t → p v = true) ∨ k ≤ cntN p (tnc t))
  | 0 => by
    refine ⟨fun _ => false, ?_, ?_, Or.inr (Nat.zero_le _)⟩
    · intro u v _ _ hu _; exact absurd hu Bool.false_ne_true
    · intro s _ _; exact ⟨fun hu => absurd hu Bool.false_ne_true, fun hu => absurd hu Bool.false_ne_true⟩
  | k + 1 => by
    obtain ⟨p, hP, hQ, hc⟩ := fr_set hst k
    have e : frN t fr sh (k + 1) g = frR t fr sh (tns t) (frN t fr sh k g) := rfl
    rw [e]
    generalize frN t fr sh k g = G at hP hQ
    have hK := frR_K hst hP hQ (tns t) (Nat.le_refl _)
    rcases least_out G p (tnc t) with hall | ⟨v, hv, hpv, hm⟩
    · exact ⟨p, hK.P hP, hK.Q hst hQ, Or.inl hall⟩
    · have hval : frR t fr sh (tns t) G v = G v := Nat.le_antisymm (hK.2.1 v) (hK.2.2 (G v) hm v hv hpv)
      refine ⟨fun i => p i || decide (i = v), fun u w hu hw hpu hpw => ?_, fun s hs hsh => ?_, Or.inr ?_⟩
      · simp only [Bool.or_eq_false_iff, decide_eq_false_iff_not] at hpw
        cases hpu' : p u with
        | true => exact hK.P hP u w hu hw hpu' hpw.1
        | false =>
          simp only [hpu', Bool.false_or, decide_eq_true_iff] at hpu
          rw [hpu, hval]
          exact hK.2.2 (G v) hm w hw hpw.1
      · obtain ⟨q1, q2⟩ := hK.Q hst hQ s hs hsh
        obtain ⟨r1, r2⟩ := frR_min hst hP hQ hv hpv hm (tns t) (Nat.le_refl _) s hs hsh
        refine ⟨fun hp => ?_, fun hp => ?_⟩
        · simp only [Bool.or_eq_true, decide_eq_true_iff] at hp
          rcases hp with hp | hp
          · exact q1 hp
          · rw [hp, hval]; exact r1 hp.symm
        · simp only [Bool.or_eq_true, decide_eq_true_iff] at hp
          rcases hp with hp | hp
          · exact q2 hp
          · rw [hp, hval]; exact r2 hp.symm
      · rcases hc with hc | hc
        · rw [hc v hv] at hpv; cases hpv
        · have := cntN_more (p := p) (q := fun i => p i || decide (i = v)) (fun i hi => by simp [hi]) hpv (by simp) (tnc t) hv
          omega
theorem fr_fix (hst : stB t) : ∀ s, s ≤ tns t → frR t fr sh s (frN t fr sh (tnc t) g) = frN t fr sh (tnc t) g := by
  obtain ⟨p, hP, hQ, hc⟩ := fr_set (fr := fr) (sh := sh) (g := g) hst (tnc t)
  have hall : ∀ v, v < tnc t → p v = true := by
    rcases hc with hc | hc
    · exact hc
    · intro v hv
      cases hpv : p v with
      | true => rfl
      | false =>
        have := cntN_more (p := p) (q := fun _ => true) (fun _ _ => rfl) hpv rfl (tnc t) hv
        have := cntN_le (fun _ => true) (tnc t)
        omega
  generalize frN t fr sh (tnc t) g = G at hP hQ
  intro s
  induction s with
  | zero => intro _; rfl
  | succ s ih =>
    intro hs
    show frS t fr sh s (frR t fr sh s G) = G
    rw [ih (by omega)]
    have hK := frS_K hst hP hQ (show s < tns t by omega)
    funext j
    by_cases hj : j < tnc t
    · exact hK.1 j hj (hall j hj)
    · obtain ⟨h1, h2, h3⟩ := hst s (by omega)
      cases hsh : sh s with
      | true => rw [frS_t hsh]
      | false => rw [frS_v hsh h3, if_neg (by omega), if_neg (by omega)]
theorem fr_more (hst : stB t) : ∀ d, frN t fr sh (tnc t + d) g = frN t fr sh (tnc t) g
  | 0 => rfl
  | d + 1 => by
    show frR t fr sh (tns t) (frN t fr sh (tnc t + d) g) = _
    rw [fr_more hst d, fr_fix hst _ (Nat.le_refl _)]
theorem fr_7 (hst : stB t) (h7 : tnc t ≤ 7) : frN t fr sh 7 g = frN t fr sh (tnc t) g := by
  have := fr_more (fr := fr) (sh := sh) (g := g) hst (7 - tnc t)
  rw [show tnc t + (7 - tnc t) = 7 by omega] at this
  exact this
/-- a number is small or a thousand -/
def fB (B : Nat) (g : Nat → Nat) : Prop := ∀ j, g j ≤ B ∨ g j = 1000
theorem frS_B (hst : stB t) {s B : Nat} (hs : s < tns t) (hB : B < 999) (h : fB B g) : fB (B + 1) (frS t fr sh s g) := by
  intro j
  cases hsh : sh s with
  | true => rw [frS_t hsh]; have := h j; omega
  | false =>
    obtain ⟨h1, h2, h3⟩ := hst s hs
    have ha := h (tone t s)
    have hb := h (toth t s)
    have hw : wS fr s ≤ 1 := by unfold wS; split <;> omega
    rw [frS_v hsh h3]
    split
    · omega
    · split
      · omega
      · have := h j; omega
theorem frR_B (hst : stB t) {B : Nat} (h : fB B g) : ∀ s, s ≤ tns t → B + s < 999 → fB (B + s) (frR t fr sh s g)
  | 0, _, _ => h
  | s + 1, hs, hB => by
    have := frS_B (fr := fr) (sh := sh) hst (show s < tns t by omega) (show B + s < 999 by omega) (frR_B hst h s (by omega) (by omega))
    exact this
theorem frN_B (hst : stB t) (h10 : tns t ≤ 10) {f : Nat} : ∀ k, k ≤ 7 → fB (10 * k) (frN t fr sh k (fr0 f))
  | 0, _ => fun j => by unfold frN fr0; split <;> omega
  | k + 1, hk => by
    have := frR_B (fr := fr) (sh := sh) hst (frN_B (f := f) hst h10 k (by omega)) (tns t) (Nat.le_refl _) (by omega)
    intro j
    have := this j
    show frR t fr sh (tns t) (frN t fr sh k (fr0 f)) j ≤ _ ∨ frR t fr sh (tns t) (frN t fr sh k (fr0 f)) j = 1000
    omega
end FS
