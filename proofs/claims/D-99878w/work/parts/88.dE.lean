/-! walks with what they pass; the component's table of the few (pure) -/
section DE
variable {t : ZT} {st : Nat}
def adj (t : ZT) (u v : Nat) : Prop := ∃ s, s < tns t ∧ ((tone t s = u ∧ toth t s = v) ∨ (toth t s = u ∧ tone t s = v))
theorem adj.lt (hst : stB t) {u v : Nat} (h : adj t u v) : u < tnc t ∧ v < tnc t := by
  obtain ⟨s, hs, h | h⟩ := h
  · have := hst s hs; omega
  · have := hst s hs; omega
/-- a walk of n steps from st to v that passes just the set S -/
def wkS (t : ZT) (st : Nat) : Nat → Nat → Nat → Prop
  | 0, S, v => S = 2 ^ st ∧ v = st
  | n + 1, S, v => ∃ u S', wkS t st n S' u ∧ adj t u v ∧ S = S' ||| 2 ^ v
theorem tb_or (S v i : Nat) : (S ||| 2 ^ v).testBit i = (S.testBit i || decide (v = i)) := by rw [Nat.testBit_or, Nat.testBit_two_pow]
theorem tb_xor (S v i : Nat) : (S ^^^ 2 ^ v).testBit i = (S.testBit i ^^ decide (v = i)) := by rw [Nat.testBit_xor, Nat.testBit_two_pow]
theorem wkS_b (hst : stB t) (hs : st < tnc t) : ∀ n S v, wkS t st n S v → S.testBit v = true ∧ v < tnc t ∧ S < 2 ^ tnc t
  | 0, S, v, h => by
    obtain ⟨h1, h2⟩ := h
    subst h1 h2
    exact ⟨by rw [Nat.testBit_two_pow]; simp, hs, Nat.pow_lt_pow_right (by omega) hs⟩
  | n + 1, S, v, h => by
    obtain ⟨u, S', hw, ha, e⟩ := h
    have ih := wkS_b hst hs n S' u hw
    have hv := (ha.lt hst).2
    subst e
    exact ⟨by rw [tb_or]; simp, hv, Nat.or_lt_two_pow ih.2.2 (Nat.pow_lt_pow_right (by omega) hv)⟩
theorem or_in {S v : Nat} (h : S.testBit v = true) : S ||| 2 ^ v = S := by
  refine Nat.eq_of_testBit_eq (fun i => ?_)
  rw [tb_or]
  by_cases e : v = i
  · subst e; rw [h]; rfl
  · rw [decide_eq_false e, Bool.or_false]
theorem xor_or {S v : Nat} (h : S.testBit v = true) : (S ^^^ 2 ^ v) ||| 2 ^ v = S := by
  refine Nat.eq_of_testBit_eq (fun i => ?_)
  rw [tb_or, tb_xor]
  by_cases e : v = i
  · subst e; rw [h]; simp
  · rw [decide_eq_false e]; simp
theorem or_xor {S v : Nat} (h : S.testBit v = false) : (S ||| 2 ^ v) ^^^ 2 ^ v = S := by
  refine Nat.eq_of_testBit_eq (fun i => ?_)
  rw [tb_xor, tb_or]
  by_cases e : v = i
  · subst e; rw [h]; simp
  · rw [decide_eq_false e]; simp
theorem or_gt {a c : Nat} (h : a.testBit c = false) : a < a ||| 2 ^ c := by
  refine Nat.lt_of_le_of_ne Nat.left_le_or (fun e => ?_)
  have := congrArg (fun x => x.testBit c) e
  simp only [tb_or, h, decide_true, Bool.or_true] at this
  cases this
theorem xor_lt {S v : Nat} (h : S.testBit v = true) : S ^^^ 2 ^ v < S := by
  have := or_gt (a := S ^^^ 2 ^ v) (c := v) (by rw [tb_xor, h]; simp)
  rw [xor_or h] at this
  exact this
/-- one street is gone along, at the row of the set S; e: the table -/
def lfR (t : ZT) (e : Nat → Nat → Nat) (S s : Nat) (r : Nat → Nat) : Nat → Nat := fun j =>
  if S.testBit (tone t s) = true ∧ S.testBit (toth t s) = true then
    (if j = tone t s then min (r (tone t s)) (1 + min (r (toth t s)) (e (S ^^^ 2 ^ tone t s) (toth t s)))
     else if j = toth t s then min (r (toth t s)) (1 + min (min (r (tone t s)) (1 + min (r (toth t s)) (e (S ^^^ 2 ^ tone t s) (toth t s)))) (e (S ^^^ 2 ^ toth t s) (tone t s)))
     else r j)
  else r j
def lfS (t : ZT) (e : Nat → Nat → Nat) (S : Nat) : Nat → (Nat → Nat) → Nat → Nat
  | 0, r => r
  | s + 1, r => lfR t e S s (lfS t e S s r)
def lfN (t : ZT) (e : Nat → Nat → Nat) (S : Nat) : Nat → (Nat → Nat) → Nat → Nat
  | 0, r => r
  | k + 1, r => lfS t e S (tns t) (lfN t e S k r)
def lfI (st : Nat) : Nat → Nat → Nat := fun S j => if S = 2 ^ st ∧ j = st then 0 else 1000000
def lfT (t : ZT) (st : Nat) : Nat → Nat → Nat → Nat
  | 0 => lfI st
  | n + 1 => fun S => if S = n then lfN t (lfT t st n) n (tnc t) (lfI st n) else lfT t st n S
/-- the least of a row, and of b -/
def lfm (r : Nat → Nat) : Nat → Nat → Nat
  | 0, b => b
  | c + 1, b => min (lfm r c b) (r c)
def lfB (t : ZT) (st goal : Nat) : Nat → Nat
  | 0 => 1000000
  | n + 1 => if n &&& goal = goal then lfm (lfT t st (n + 1) n) (tnc t) (lfB t st goal n) else lfB t st goal n
variable {e : Nat → Nat → Nat} {S : Nat} {r : Nat → Nat}
def lsd (t : ZT) (st S : Nat) (r : Nat → Nat) : Prop := ∀ j, r j < 1000000 → wkS t st (r j) S j
theorem wkS_in {n a b : Nat} (h : wkS t st n S b) (ha : adj t b a) (hS : S.testBit a = true) : wkS t st (1 + n) S a := by
  rw [Nat.add_comm]; exact ⟨b, S, h, ha, (or_in hS).symm⟩
theorem wkS_new {n a b : Nat} (h : wkS t st n (S ^^^ 2 ^ a) b) (ha : adj t b a) (hS : S.testBit a = true) : wkS t st (1 + n) S a := by
  rw [Nat.add_comm]; exact ⟨b, _, h, ha, (xor_or hS).symm⟩
theorem ls3 {a x y z : Nat} (hx : x < 1000000 → wkS t st x S a) (hy : y < 1000000 → wkS t st (1 + y) S a) (hz : z < 1000000 → wkS t st (1 + z) S a) (h : min x (1 + min y z) < 1000000) : wkS t st (min x (1 + min y z)) S a := by
  have : min x (1 + min y z) = x ∨ min x (1 + min y z) = 1 + y ∨ min x (1 + min y z) = 1 + z := by omega
  rcases this with e | e | e
  · rw [e] at h ⊢; exact hx h
  · rw [e] at h ⊢; exact hy (by omega)
  · rw [e] at h ⊢; exact hz (by omega)
theorem lfR_sd {s : Nat} (hs : s < tns t) (he : ∀ S', lsd t st S' (e S')) (hr : lsd t st S r) : lsd t st S (lfR t e S s r) := by
  intro j hj
  unfold lfR at hj ⊢
  by_cases hin : S.testBit (tone t s) = true ∧ S.testBit (toth t s) = true
  · rw [if_pos hin] at hj ⊢
    have aab : adj t (tone t s) (toth t s) := ⟨s, hs, Or.inl ⟨rfl, rfl⟩⟩
    have aba : adj t (toth t s) (tone t s) := ⟨s, hs, Or.inr ⟨rfl, rfl⟩⟩
    have hA := ls3 (S := S) (a := tone t s) (hr (tone t s)) (fun q => wkS_in (hr (toth t s) q) aba hin.1) (fun q => wkS_new (he (S ^^^ 2 ^ tone t s) (toth t s) q) aba hin.1)
    by_cases e1 : j = tone t s
    · rw [if_pos e1] at hj ⊢
      rw [e1]; exact hA hj
    · rw [if_neg e1] at hj ⊢
      by_cases e2 : j = toth t s
      · rw [if_pos e2] at hj ⊢
        rw [e2]
        exact ls3 (S := S) (a := toth t s) (hr (toth t s)) (fun q => wkS_in (hA q) aab hin.2) (fun q => wkS_new (he (S ^^^ 2 ^ toth t s) (tone t s) q) aab hin.2) hj
      · rw [if_neg e2] at hj ⊢
        exact hr j hj
  · rw [if_neg hin] at hj ⊢
    exact hr j hj
theorem lfS_sd (he : ∀ S', lsd t st S' (e S')) (hr : lsd t st S r) : ∀ s, s ≤ tns t → lsd t st S (lfS t e S s r)
  | 0, _ => hr
  | s + 1, hs => lfR_sd (show s < tns t by omega) he (lfS_sd he hr s (by omega))
theorem lfN_sd (he : ∀ S', lsd t st S' (e S')) (hr : lsd t st S r) : ∀ k, lsd t st S (lfN t e S k r)
  | 0 => hr
  | k + 1 => lfS_sd he (lfN_sd he hr k) _ (Nat.le_refl _)
theorem lfI_sd : lsd t st S (lfI st S) := by
  intro j hj
  unfold lfI at hj ⊢
  by_cases h : S = 2 ^ st ∧ j = st
  · rw [if_pos h]; exact h
  · rw [if_neg h] at hj; omega
theorem lfT_sd : ∀ n S, lsd t st S (lfT t st n S)
  | 0, S => lfI_sd
  | n + 1, S => by
    show lsd t st S (if S = n then lfN t (lfT t st n) n (tnc t) (lfI st n) else lfT t st n S)
    by_cases h : S = n
    · rw [if_pos h, h]; exact lfN_sd (lfT_sd n) lfI_sd _
    · rw [if_neg h]; exact lfT_sd n S
theorem lfT_hi : ∀ n S, n ≤ S → lfT t st n S = lfI st S
  | 0, _, _ => rfl
  | n + 1, S, h => by
    show (if S = n then lfN t (lfT t st n) n (tnc t) (lfI st n) else lfT t st n S) = _
    rw [if_neg (by omega)]; exact lfT_hi n S (by omega)
theorem lfT_at (S : Nat) : lfT t st (S + 1) S = lfN t (lfT t st S) S (tnc t) (lfI st S) := by
  show (if S = S then lfN t (lfT t st S) S (tnc t) (lfI st S) else lfT t st S S) = _
  rw [if_pos rfl]
theorem lfT_lo {n S : Nat} (h : S < n) : ∀ d, lfT t st (n + d) S = lfT t st n S
  | 0 => rfl
  | d + 1 => by
    show (if S = n + d then lfN t (lfT t st (n + d)) (n + d) (tnc t) (lfI st (n + d)) else lfT t st (n + d) S) = _
    rw [if_neg (by omega)]; exact lfT_lo h d
/-- nothing grows -/
theorem lfR_le {s j : Nat} : lfR t e S s r j ≤ r j := by
  unfold lfR
  split
  · split
    · rename_i h; rw [h]; omega
    · split
      · rename_i h; rw [h]; omega
      · exact Nat.le_refl _
  · exact Nat.le_refl _
theorem lfS_le : ∀ s j, lfS t e S s r j ≤ r j
  | 0, _ => Nat.le_refl _
  | s + 1, j => Nat.le_trans lfR_le (lfS_le s j)
theorem lfN_le : ∀ k j, lfN t e S k r j ≤ r j
  | 0, _ => Nat.le_refl _
  | k + 1, j => Nat.le_trans (lfS_le _ _) (lfN_le k j)
/-- what comes from the other sets is in -/
def lfX (t : ZT) (e : Nat → Nat → Nat) (S n : Nat) (r : Nat → Nat) : Prop := ∀ s, s < n → S.testBit (tone t s) = true → S.testBit (toth t s) = true → r (tone t s) ≤ 1 + e (S ^^^ 2 ^ tone t s) (toth t s) ∧ r (toth t s) ≤ 1 + e (S ^^^ 2 ^ toth t s) (tone t s)
theorem lfX.le {n : Nat} {r' : Nat → Nat} (h : lfX t e S n r) (hl : ∀ j, r' j ≤ r j) : lfX t e S n r' := fun s hs h1 h2 => ⟨Nat.le_trans (hl _) (h s hs h1 h2).1, Nat.le_trans (hl _) (h s hs h1 h2).2⟩
theorem lfS_X (hst : stB t) : ∀ s, s ≤ tns t → lfX t e S s (lfS t e S s r)
  | 0, _ => fun s hs => absurd hs (by omega)
  | s + 1, hs => by
    have ih := lfS_X hst s (by omega)
    obtain ⟨-, -, hne⟩ := hst s (by omega)
    intro s' hs' h1 h2
    by_cases es : s' = s
    · subst es
      show lfR t e S s' (lfS t e S s' r) _ ≤ _ ∧ lfR t e S s' (lfS t e S s' r) _ ≤ _
      unfold lfR
      have hin : S.testBit (tone t s') = true ∧ S.testBit (toth t s') = true := ⟨h1, h2⟩
      rw [if_pos hin, if_pos hin, if_pos rfl, if_neg (Ne.symm hne), if_pos rfl]
      omega
    · exact ih.le (fun j => lfR_le) s' (by omega) h1 h2
def lfh (t : ZT) (S : Nat) : Nat → Bool := fun s => !(S.testBit (tone t s) && S.testBit (toth t s))
theorem lfh_f {s : Nat} : lfh t S s = false ↔ S.testBit (tone t s) = true ∧ S.testBit (toth t s) = true := by
  unfold lfh
  cases S.testBit (tone t s) <;> cases S.testBit (toth t s) <;> simp
theorem lfR_fr (hst : stB t) {s : Nat} (hs : s < tns t) (hX : lfX t e S (tns t) r) : lfR t e S s r = frS t (fun _ => false) (lfh t S) s r := by
  obtain ⟨-, -, hne⟩ := hst s hs
  funext j
  unfold lfR
  cases hh : lfh t S s with
  | true =>
    rw [frS_t hh, if_neg (fun q => by rw [lfh_f.mpr q] at hh; cases hh)]
  | false =>
    have hin := lfh_f.mp hh
    obtain ⟨x1, x2⟩ := hX s hs hin.1 hin.2
    rw [frS_v hh hne, if_pos hin, show wS (fun _ => false) s = 1 from rfl]
    by_cases e1 : j = tone t s
    · rw [if_pos e1, if_pos e1]; omega
    · rw [if_neg e1, if_neg e1]
      by_cases e2 : j = toth t s
      · rw [if_pos e2, if_pos e2]; omega
      · rw [if_neg e2, if_neg e2]
theorem lfS_fr (hst : stB t) (hX : lfX t e S (tns t) r) : ∀ s, s ≤ tns t → lfS t e S s r = frR t (fun _ => false) (lfh t S) s r
  | 0, _ => rfl
  | s + 1, hs => by
    have ih := lfS_fr hst hX s (by omega)
    show lfR t e S s (lfS t e S s r) = frS t (fun _ => false) (lfh t S) s (frR t (fun _ => false) (lfh t S) s r)
    rw [← ih]
    exact lfR_fr hst (by omega) (hX.le (fun j => lfS_le s j))
theorem lfN_X (hst : stB t) (k : Nat) : lfX t e S (tns t) (lfN t e S (k + 1) r) := lfS_X hst _ (Nat.le_refl _)
theorem lfN_fr (hst : stB t) : ∀ k, lfN t e S (k + 1) r = frN t (fun _ => false) (lfh t S) k (lfN t e S 1 r)
  | 0 => rfl
  | k + 1 => by
    have ih := lfN_fr hst k
    show lfS t e S (tns t) (lfN t e S (k + 1) r) = frR t (fun _ => false) (lfh t S) (tns t) (frN t (fun _ => false) (lfh t S) k (lfN t e S 1 r))
    rw [← ih]
    exact lfS_fr hst (lfN_X hst k) _ (Nat.le_refl _)
/-- one round less than corners: all streets are gone along -/
theorem fr_cl (hst : stB t) {sh : Nat → Bool} {g : Nat → Nat} {k : Nat} (hk : k + 1 = tnc t) {s : Nat} (hs : s < tns t) (hsh : sh s = false) : frN t (fun _ => false) sh k g (toth t s) ≤ frN t (fun _ => false) sh k g (tone t s) + 1 ∧ frN t (fun _ => false) sh k g (tone t s) ≤ frN t (fun _ => false) sh k g (toth t s) + 1 := by
  obtain ⟨p, hP, hQ, hc⟩ := fr_set (fr := fun _ => false) (sh := sh) (g := g) hst k
  obtain ⟨h1, h2, h3⟩ := hst s hs
  obtain ⟨q1, q2⟩ := hQ s hs hsh
  rw [show wS (fun _ => false) s = 1 from rfl] at q1 q2
  cases hpa : p (tone t s) with
  | true =>
    have := q1 hpa
    cases hpb : p (toth t s) with
    | true => exact ⟨this, q2 hpb⟩
    | false => have := hP _ _ h1 h2 hpa hpb; omega
  | false =>
    cases hpb : p (toth t s) with
    | true => have := hP _ _ h2 h1 hpb hpa; have := q2 hpb; omega
    | false =>
      rcases hc with hc | hc
      · rw [hc _ h1] at hpa; cases hpa
      · have c1 := cntN_more (p := p) (q := fun i => p i || decide (i = tone t s)) (fun i hi => by simp [hi]) hpa (by simp) (tnc t) h1
        have c2 := cntN_more (p := fun i => p i || decide (i = tone t s)) (q := fun _ => true) (fun i hi => rfl) (k := toth t s) (by simp [hpb, Ne.symm h3]) rfl (tnc t) h2
        have := cntN_le (fun _ => true) (tnc t)
        omega
/-- the row of a set is closed -/
theorem lf_cl (hst : stB t) (hc : 0 < tnc t) {s : Nat} (hs : s < tns t) (h1 : S.testBit (tone t s) = true) (h2 : S.testBit (toth t s) = true) :
    (lfN t e S (tnc t) r (tone t s) ≤ 1 + lfN t e S (tnc t) r (toth t s) ∧ lfN t e S (tnc t) r (toth t s) ≤ 1 + lfN t e S (tnc t) r (tone t s)) ∧ (lfN t e S (tnc t) r (tone t s) ≤ 1 + e (S ^^^ 2 ^ tone t s) (toth t s) ∧ lfN t e S (tnc t) r (toth t s) ≤ 1 + e (S ^^^ 2 ^ toth t s) (tone t s)) := by
  obtain ⟨k, hk⟩ : ∃ k, k + 1 = tnc t := ⟨tnc t - 1, by omega⟩
  rw [← hk]
  refine ⟨?_, lfN_X hst k s hs h1 h2⟩
  rw [lfN_fr hst]
  have := fr_cl (sh := lfh t S) (g := lfN t e S 1 r) hst hk hs (lfh_f.mpr ⟨h1, h2⟩)
  omega
/-- all walks -/
theorem lf_all (hst : stB t) (hs : st < tnc t) {N : Nat} (hN : 2 ^ tnc t ≤ N) : ∀ n S v, wkS t st n S v → lfT t st N S v ≤ n := by
  have row : ∀ S, S < 2 ^ tnc t → lfT t st N S = lfN t (lfT t st S) S (tnc t) (lfI st S) := fun S hS => by
    have := lfT_lo (t := t) (st := st) (show S < S + 1 by omega) (N - (S + 1))
    rw [show S + 1 + (N - (S + 1)) = N by omega] at this
    rw [this, lfT_at]
  have ext : ∀ S a, S < 2 ^ tnc t → S.testBit a = true → lfT t st S (S ^^^ 2 ^ a) = lfT t st N (S ^^^ 2 ^ a) := fun S a hS ha => by
    have := lfT_lo (t := t) (st := st) (xor_lt ha) (N - S)
    rw [show S + (N - S) = N by omega] at this
    exact this.symm
  have cl : ∀ S u v, S < 2 ^ tnc t → S.testBit u = true → S.testBit v = true → adj t u v → lfT t st N S v ≤ 1 + lfT t st N S u ∧ lfT t st N S v ≤ 1 + lfT t st N (S ^^^ 2 ^ v) u := by
    intro S u v hS hu hv ha
    obtain ⟨s, hs', ⟨e1, e2⟩ | ⟨e1, e2⟩⟩ := ha
    · subst e1 e2
      obtain ⟨⟨c1, c2⟩, c3, c4⟩ := lf_cl (e := lfT t st S) (r := lfI st S) hst (by omega) hs' hu hv
      rw [← row S hS] at c1 c2 c3 c4
      rw [ext S _ hS hv] at c4
      exact ⟨c2, c4⟩
    · subst e1 e2
      obtain ⟨⟨c1, c2⟩, c3, c4⟩ := lf_cl (e := lfT t st S) (r := lfI st S) hst (by omega) hs' hv hu
      rw [← row S hS] at c1 c2 c3 c4
      rw [ext S _ hS hv] at c3
      exact ⟨c1, c3⟩
  intro n
  induction n with
  | zero =>
    intro S v h
    obtain ⟨-, -, b3⟩ := wkS_b hst hs 0 S v h
    obtain ⟨h1, h2⟩ := h
    rw [row S b3]
    refine Nat.le_trans (lfN_le _ _) ?_
    unfold lfI
    rw [if_pos ⟨h1, h2⟩]; omega
  | succ n ih =>
    intro S v h
    obtain ⟨b1, b2, b3⟩ := wkS_b hst hs (n + 1) S v h
    obtain ⟨u, S', hw, ha, eS⟩ := h
    have i1 := ih S' u hw
    obtain ⟨d1, d2, d3⟩ := wkS_b hst hs n S' u hw
    have hu : S.testBit u = true := by rw [eS, tb_or, d1]; rfl
    have := cl S u v b3 hu b1 ha
    cases hv : S'.testBit v with
    | true =>
      rw [or_in hv] at eS
      subst eS
      omega
    | false =>
      have e2 : S ^^^ 2 ^ v = S' := by rw [eS]; exact or_xor hv
      rw [e2] at this
      omega
/-- bounds -/
def lfC (S : Nat) : Nat := cntN (fun i => S.testBit i) 7
theorem lfC_lt {a : Nat} (ha : a < 7) (h : S.testBit a = true) : lfC (S ^^^ 2 ^ a) < lfC S :=
  cntN_more (p := fun i => (S ^^^ 2 ^ a).testBit i) (q := fun i => S.testBit i) (fun i hi => by
    rw [tb_xor] at hi
    by_cases e : a = i
    · subst e; exact h
    · rw [decide_eq_false e, Bool.xor_false] at hi; exact hi) (k := a) (by rw [tb_xor, h]; simp) h 7 ha
def lfq (S B : Nat) (r : Nat → Nat) : Prop := ∀ j, r j = 0 ∨ r j = 1000000 ∨ ((∃ v, v < 7 ∧ S.testBit v = true) ∧ r j ≤ B)
theorem lfR_B (hst : stB t) (h7 : tnc t ≤ 7) {B : Nat} (hB : B < 900000) (he : ∀ v, v < 7 → S.testBit v = true → ∀ j, e (S ^^^ 2 ^ v) j ≤ B ∨ e (S ^^^ 2 ^ v) j = 1000000) {s : Nat} (hs : s < tns t) (hr : lfq S B r) : lfq S (B + 2) (lfR t e S s r) := by
  obtain ⟨s1, s2, -⟩ := hst s hs
  intro j
  unfold lfR
  by_cases hin : S.testBit (tone t s) = true ∧ S.testBit (toth t s) = true
  · rw [if_pos hin]
    have hv : ∃ v, v < 7 ∧ S.testBit v = true := ⟨tone t s, by omega, hin.1⟩
    have x1 := he (tone t s) (by omega) hin.1 (toth t s)
    have x2 := he (toth t s) (by omega) hin.2 (tone t s)
    have ha := hr (tone t s)
    have hb := hr (toth t s)
    have hj := hr j
    simp only [hv, true_and] at ha hb hj ⊢
    generalize e (S ^^^ 2 ^ tone t s) (toth t s) = y1 at x1 ⊢
    generalize e (S ^^^ 2 ^ toth t s) (tone t s) = y2 at x2 ⊢
    split
    · omega
    · split
      · omega
      · omega
  · rw [if_neg hin]
    rcases hr j with q | q | q
    · exact Or.inl q
    · exact Or.inr (Or.inl q)
    · exact Or.inr (Or.inr ⟨q.1, by omega⟩)
theorem lfS_B (hst : stB t) (h7 : tnc t ≤ 7) {B : Nat} (hB : B < 800000) (he : ∀ v, v < 7 → S.testBit v = true → ∀ j, e (S ^^^ 2 ^ v) j ≤ B ∨ e (S ^^^ 2 ^ v) j = 1000000) (hr : lfq S B r) (h10 : tns t ≤ 10) : ∀ s, s ≤ tns t → lfq S (B + 2 * s) (lfS t e S s r)
  | 0, _ => hr
  | s + 1, hs => by
    have := lfR_B (e := e) hst h7 (show B + 2 * s < 900000 by omega) (fun v hv hS j => by have := he v hv hS j; omega) (show s < tns t by omega) (lfS_B hst h7 hB he hr h10 s (by omega))
    exact this
theorem lfq.le {B B' : Nat} (h : lfq S B r) (hl : B ≤ B') : lfq S B' r := fun j => by
  rcases h j with q | q | q
  · exact Or.inl q
  · exact Or.inr (Or.inl q)
  · exact Or.inr (Or.inr ⟨q.1, by omega⟩)
theorem lfN_B (hst : stB t) (h7 : tnc t ≤ 7) {B : Nat} (hB : B < 700000) (he : ∀ v, v < 7 → S.testBit v = true → ∀ j, e (S ^^^ 2 ^ v) j ≤ B ∨ e (S ^^^ 2 ^ v) j = 1000000) (hr : lfq S B r) (h10 : tns t ≤ 10) : ∀ k, k ≤ 7 → lfq S (B + 20 * k) (lfN t e S k r)
  | 0, _ => hr
  | k + 1, hk => by
    have := lfS_B (e := e) hst h7 (show B + 20 * k < 800000 by omega) (fun v hv hS j => by have := he v hv hS j; omega) (lfN_B hst h7 hB he hr h10 k (by omega)) h10 (tns t) (Nat.le_refl _)
    exact this.le (by omega)
theorem lfT_B (hst : stB t) (h7 : tnc t ≤ 7) (h10 : tns t ≤ 10) : ∀ n S j, lfT t st n S j ≤ 140 * lfC S ∨ lfT t st n S j = 1000000
  | 0, S, j => by
    show lfI st S j ≤ _ ∨ lfI st S j = _
    unfold lfI
    split
    · exact Or.inl (Nat.zero_le _)
    · exact Or.inr rfl
  | n + 1, S, j => by
    have ih := lfT_B hst h7 h10 n
    show (if S = n then lfN t (lfT t st n) n (tnc t) (lfI st n) else lfT t st n S) j ≤ _ ∨ (if S = n then lfN t (lfT t st n) n (tnc t) (lfI st n) else lfT t st n S) j = _
    by_cases h : S = n
    · rw [if_pos h, ← h]
      have hC7 : lfC S ≤ 7 := cntN_le _ _
      have := lfN_B (e := lfT t st S) (S := S) (r := lfI st S) hst h7 (B := 140 * lfC S - 140) (by omega) (fun v hv hS j => by
        have h1 := ih (S ^^^ 2 ^ v) j
        rw [← h] at h1
        have h2 := lfC_lt hv hS
        omega) (fun j => by
          unfold lfI
          split
          · exact Or.inl rfl
          · exact Or.inr (Or.inl rfl)) h10 (tnc t) h7 j
      rcases this with q | q | ⟨⟨v, hv, hS⟩, q⟩
      · left; omega
      · exact Or.inr q
      · have h2 := lfC_lt hv hS
        left; omega
    · rw [if_neg h]; exact ih S j
/-- the least of all -/
theorem lfm_le {r : Nat → Nat} : ∀ n b, lfm r n b ≤ b ∧ ∀ c, c < n → lfm r n b ≤ r c
  | 0, b => ⟨Nat.le_refl _, fun c hc => absurd hc (by omega)⟩
  | n + 1, b => by
    have ih := lfm_le (r := r) n b
    rw [lfm]
    refine ⟨by omega, fun c hc => ?_⟩
    by_cases e : c = n
    · rw [e]; omega
    · have := ih.2 c (by omega); omega
theorem lfm_at {r : Nat → Nat} : ∀ n b, lfm r n b = b ∨ ∃ c, c < n ∧ lfm r n b = r c
  | 0, b => Or.inl rfl
  | n + 1, b => by
    rw [lfm]
    by_cases h : r n < lfm r n b
    · exact Or.inr ⟨n, by omega, by omega⟩
    · rw [Nat.min_eq_left (by omega)]
      rcases lfm_at (r := r) n b with q | ⟨c, hc, q⟩
      · exact Or.inl q
      · exact Or.inr ⟨c, by omega, q⟩
theorem lfB_le {goal : Nat} : ∀ n S c, S < n → S &&& goal = goal → c < tnc t → lfB t st goal n ≤ lfT t st n S c
  | 0, S, c, h, _, _ => absurd h (by omega)
  | n + 1, S, c, h, hg, hc => by
    rw [lfB]
    by_cases e : S = n
    · subst e
      rw [if_pos hg]
      exact (lfm_le _ _).2 c hc
    · have ih := lfB_le (goal := goal) n S c (by omega) hg hc
      rw [lfT_lo (show S < n by omega) 1]
      split
      · exact Nat.le_trans (lfm_le _ _).1 ih
      · exact ih
theorem lfB_at {goal : Nat} : ∀ n, lfB t st goal n = 1000000 ∨ ∃ S c, S < n ∧ S &&& goal = goal ∧ c < tnc t ∧ lfB t st goal n = lfT t st n S c
  | 0 => Or.inl rfl
  | n + 1 => by
    have lift : (lfB t st goal n = 1000000 ∨ ∃ S c, S < n ∧ S &&& goal = goal ∧ c < tnc t ∧ lfB t st goal n = lfT t st n S c) → (lfB t st goal n = 1000000 ∨ ∃ S c, S < n + 1 ∧ S &&& goal = goal ∧ c < tnc t ∧ lfB t st goal n = lfT t st (n + 1) S c) := by
      rintro (q | ⟨S, c, h1, h2, h3, q⟩)
      · exact Or.inl q
      · exact Or.inr ⟨S, c, by omega, h2, h3, by rw [lfT_lo h1 1]; exact q⟩
    have ih := lift (lfB_at n)
    rw [lfB]
    by_cases hg : n &&& goal = goal
    · rw [if_pos hg]
      rcases lfm_at (r := lfT t st (n + 1) n) (tnc t) (lfB t st goal n) with q | ⟨c, hc, q⟩
      · rw [q]; exact ih
      · exact Or.inr ⟨n, c, by omega, hg, hc, q⟩
    · rw [if_neg hg]; exact ih
end DE
