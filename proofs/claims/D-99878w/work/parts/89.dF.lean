/-! the round: the model's table and the component's say the same (pure) -/
section DF
variable {t : ZT} {st : Nat}
/-- a walk of n steps from f to v -/
def wkU (t : ZT) (f : Nat) : Nat → Nat → Prop
  | 0, v => v = f
  | n + 1, v => ∃ u, wkU t f n u ∧ adj t u v
theorem wk_app {n S u : Nat} (h : wkS t st n S u) : ∀ m v, wkU t u m v → ∃ S', wkS t st (n + m) S' v ∧ ∀ i, S.testBit i = true → S'.testBit i = true
  | 0, v, hv => by
    have : v = u := hv
    subst this
    exact ⟨S, h, fun _ q => q⟩
  | m + 1, v, hv => by
    obtain ⟨w, h1, h2⟩ := hv
    obtain ⟨S', h3, h4⟩ := wk_app h m w h1
    exact ⟨S' ||| 2 ^ v, ⟨w, S', h3, h2, rfl⟩, fun i hi => by rw [tb_or, h4 i hi]; rfl⟩
abbrev fF : Nat → Bool := fun _ => false
theorem far_eq {f : Nat} : farM t (nI 0) (nI 0) f = frN t fF fF 7 (fr0 f) := by
  have : bt (nI 0) = fF := funext (fun i => bt_nI0 i)
  unfold farM; rw [this]
theorem frS_w (hst : stB t) {f s : Nat} {g : Nat → Nat} (hs : s < tns t) (h : ∀ j, g j < 1000 → wkU t f (g j) j) : ∀ j, frS t fF fF s g j < 1000 → wkU t f (frS t fF fF s g j) j := by
  obtain ⟨-, -, hne⟩ := hst s hs
  intro j hj
  rw [frS_v (sh := fF) rfl hne, show wS fF s = 1 from rfl] at hj ⊢
  by_cases e1 : j = tone t s
  · rw [if_pos e1] at hj ⊢
    rw [e1]
    by_cases hle : g (tone t s) ≤ g (toth t s) + 1
    · rw [Nat.min_eq_left hle] at hj ⊢; exact h _ hj
    · rw [Nat.min_eq_right (by omega)] at hj ⊢
      exact ⟨toth t s, h _ (by omega), ⟨s, hs, Or.inr ⟨rfl, rfl⟩⟩⟩
  · rw [if_neg e1] at hj ⊢
    by_cases e2 : j = toth t s
    · rw [if_pos e2] at hj ⊢
      rw [e2]
      by_cases hle : g (toth t s) ≤ g (tone t s) + 1
      · rw [Nat.min_eq_left hle] at hj ⊢; exact h _ hj
      · rw [Nat.min_eq_right (by omega)] at hj ⊢
        exact ⟨tone t s, h _ (by omega), ⟨s, hs, Or.inl ⟨rfl, rfl⟩⟩⟩
    · rw [if_neg e2] at hj ⊢; exact h _ hj
theorem frR_w (hst : stB t) {f : Nat} {g : Nat → Nat} (h : ∀ j, g j < 1000 → wkU t f (g j) j) : ∀ s, s ≤ tns t → ∀ j, frR t fF fF s g j < 1000 → wkU t f (frR t fF fF s g j) j
  | 0, _ => h
  | s + 1, hs => frS_w hst (show s < tns t by omega) (frR_w hst h s (by omega))
theorem frN_w (hst : stB t) {f : Nat} {g : Nat → Nat} (h : ∀ j, g j < 1000 → wkU t f (g j) j) : ∀ k, ∀ j, frN t fF fF k g j < 1000 → wkU t f (frN t fF fF k g j) j
  | 0 => h
  | k + 1 => frR_w hst (frN_w hst h k) _ (Nat.le_refl _)
theorem far_w (hst : stB t) {f j : Nat} (h : farM t (nI 0) (nI 0) f j < 1000) : wkU t f (farM t (nI 0) (nI 0) f j) j := by
  rw [far_eq] at h ⊢
  refine frN_w hst (fun j hj => ?_) 7 j h
  unfold fr0 at hj ⊢
  by_cases e : j = f
  · rw [if_pos e]; exact e
  · rw [if_neg e] at hj; omega
theorem frS_d (hst : stB t) {s : Nat} {g : Nat → Nat} (hs : s < tns t) (j : Nat) : frS t fF fF s g j ≤ g j := by
  obtain ⟨-, -, hne⟩ := hst s hs
  rw [frS_v (sh := fF) rfl hne]
  split
  · rename_i e; rw [e]; omega
  · split
    · rename_i e; rw [e]; omega
    · exact Nat.le_refl _
theorem frR_d (hst : stB t) {g : Nat → Nat} (j : Nat) : ∀ s, s ≤ tns t → frR t fF fF s g j ≤ g j
  | 0, _ => Nat.le_refl _
  | s + 1, hs => Nat.le_trans (frS_d hst (show s < tns t by omega) j) (frR_d hst j s (by omega))
theorem frN_d (hst : stB t) {g : Nat → Nat} (j : Nat) : ∀ k, frN t fF fF k g j ≤ g j
  | 0 => Nat.le_refl _
  | k + 1 => Nat.le_trans (frR_d hst j _ (Nat.le_refl _)) (frN_d hst j k)
theorem far_0 (hst : stB t) {f : Nat} : farM t (nI 0) (nI 0) f f = 0 := by
  rw [far_eq]
  have := frN_d (g := fr0 f) hst f 7
  unfold fr0 at this
  rw [if_pos rfl] at this
  unfold fr0; omega
theorem far_1 (hst : stB t) (h7 : tnc t ≤ 7) {f u v : Nat} (ha : adj t u v) : farM t (nI 0) (nI 0) f v ≤ farM t (nI 0) (nI 0) f u + 1 := by
  obtain ⟨h1, h2⟩ := ha.lt hst
  have e : farM t (nI 0) (nI 0) f = frN t fF fF (tnc t) (fr0 f) := by rw [far_eq, fr_7 hst h7]
  rw [e]
  obtain ⟨k, hk⟩ : ∃ k, k + 1 = tnc t := ⟨tnc t - 1, by omega⟩
  obtain ⟨s, hs, ⟨e1, e2⟩ | ⟨e1, e2⟩⟩ := ha
  · subst e1 e2
    have hf := fr_fix (fr := fF) (sh := fF) (g := fr0 f) hst (s + 1) (by omega)
    have hf0 := fr_fix (fr := fF) (sh := fF) (g := fr0 f) hst s (by omega)
    have : frS t fF fF s (frN t fF fF (tnc t) (fr0 f)) = frN t fF fF (tnc t) (fr0 f) := by
      have q : frR t fF fF (s + 1) (frN t fF fF (tnc t) (fr0 f)) = frS t fF fF s (frR t fF fF s (frN t fF fF (tnc t) (fr0 f))) := rfl
      rw [q, hf0] at hf; exact hf
    have hv := congrFun this (toth t s)
    obtain ⟨-, -, hne⟩ := hst s hs
    rw [frS_v (sh := fF) rfl hne, if_neg (Ne.symm hne), if_pos rfl, show wS fF s = 1 from rfl] at hv
    omega
  · subst e1 e2
    have hf := fr_fix (fr := fF) (sh := fF) (g := fr0 f) hst (s + 1) (by omega)
    have hf0 := fr_fix (fr := fF) (sh := fF) (g := fr0 f) hst s (by omega)
    have : frS t fF fF s (frN t fF fF (tnc t) (fr0 f)) = frN t fF fF (tnc t) (fr0 f) := by
      have q : frR t fF fF (s + 1) (frN t fF fF (tnc t) (fr0 f)) = frS t fF fF s (frR t fF fF s (frN t fF fF (tnc t) (fr0 f))) := rfl
      rw [q, hf0] at hf; exact hf
    have hv := congrFun this (tone t s)
    obtain ⟨-, -, hne⟩ := hst s hs
    rw [frS_v (sh := fF) rfl hne, if_pos rfl, show wS fF s = 1 from rfl] at hv
    omega
/-! the model's table -/
variable {need : Nat}
theorem rdT_m {k c : Nat} (hc : c < 7) : rdT k c % 7 = c ∧ rdT k c / 7 = k / 7 ||| 2 ^ c := by unfold rdT; omega
theorem rdT_gt {k c : Nat} (h : (k / 7).testBit c = false) : k < rdT k c := by
  have := or_gt h
  unfold rdT; omega
theorem rdI_le {k j : Nat} {g : Nat → Nat} : ∀ c, rdI t need k c g j ≤ g j
  | 0 => Nat.le_refl _
  | c + 1 => by
    have ih := rdI_le (k := k) (j := j) (g := g) c
    rw [rdI]
    split
    · rename_i h
      unfold upN
      split
      · rename_i e; rw [e] at ih ⊢; omega
      · exact ih
    · exact ih
theorem rdI_lo {k j : Nat} {g : Nat → Nat} (hj : j ≤ k) : ∀ c, rdI t need k c g j = g j
  | 0 => rfl
  | c + 1 => by
    have ih := rdI_lo (g := g) hj c
    rw [rdI]
    split
    · rename_i h
      have := rdT_gt h.1.2
      unfold upN
      rw [if_neg (by omega)]; exact ih
    · exact ih
theorem rdI_cl {k c' : Nat} {g : Nat → Nat} (h1 : need.testBit c' = true) (h2 : (k / 7).testBit c' = false) : ∀ c, c' < c → rdI t need k c g (rdT k c') ≤ g k + farM t (nI 0) (nI 0) (k % 7) c'
  | 0, h => absurd h (by omega)
  | c + 1, h => by
    by_cases e : c' = c
    · subst e
      have hk := rdI_lo (t := t) (need := need) (g := g) (Nat.le_refl k) c'
      rw [rdI]
      split
      · unfold upN
        rw [if_pos rfl, hk]; omega
      · rename_i hn
        have : ¬ rdI t need k c' g k + farM t (nI 0) (nI 0) (k % 7) c' < rdI t need k c' g (rdT k c') := fun q => hn ⟨⟨h1, h2⟩, q⟩
        rw [hk] at this; omega
    · have ih := rdI_cl (g := g) h1 h2 c (by omega)
      have hk := rdI_lo (t := t) (need := need) (g := g) (Nat.le_refl k) c
      rw [rdI]
      split
      · rename_i hn
        unfold upN
        split
        · rename_i e2; rw [← e2] at hn; omega
        · exact ih
      · exact ih
theorem rdK_s (k : Nat) : rdK t need st (k + 1) = if (rdK t need st k).2 k < 1000 then (if k / 7 = need ∧ (rdK t need st k).2 k < (rdK t need st k).1 then (rdK t need st k).2 k else (rdK t need st k).1, rdI t need k (tnc t) (rdK t need st k).2) else rdK t need st k := rfl
theorem rdK_mono (k : Nat) : ∀ d, (rdK t need st (k + d)).1 ≤ (rdK t need st k).1 ∧ (∀ j, (rdK t need st (k + d)).2 j ≤ (rdK t need st k).2 j) ∧ ∀ j, j ≤ k → (rdK t need st (k + d)).2 j = (rdK t need st k).2 j
  | 0 => ⟨Nat.le_refl _, fun _ => Nat.le_refl _, fun _ _ => rfl⟩
  | d + 1 => by
    obtain ⟨i1, i2, i3⟩ := rdK_mono k d
    rw [← Nat.add_assoc, rdK_s]
    split
    · refine ⟨?_, fun j => Nat.le_trans (rdI_le _) (i2 j), fun j hj => by rw [← i3 j hj]; exact rdI_lo (by omega) _⟩
      show (if (k + d) / 7 = need ∧ (rdK t need st (k + d)).2 (k + d) < (rdK t need st (k + d)).1 then (rdK t need st (k + d)).2 (k + d) else (rdK t need st (k + d)).1) ≤ (rdK t need st k).1
      split <;> omega
    · exact ⟨i1, i2, i3⟩
/-- what stands in the model's table is walked -/
def msd (t : ZT) (st : Nat) (g : Nat → Nat) : Prop := ∀ k, g k < 1000 → ∃ S, wkS t st (g k) S (k % 7) ∧ ∀ i, (k / 7).testBit i = true → S.testBit i = true
theorem rdI_sd (hst : stB t) (h7 : tnc t ≤ 7) (hs : st < tnc t) {k : Nat} {g : Nat → Nat} (hB : rdB t g) (h : msd t st g) : ∀ c, c ≤ tnc t → msd t st (rdI t need k c g)
  | 0, _ => h
  | c + 1, hc => by
    have ih := rdI_sd hst h7 hs (k := k) hB h c (by omega)
    have hb := rdI_B (need := need) (k := k) h7 hB c (by omega)
    rw [rdI]
    split
    · rename_i hn
      intro j hj
      unfold upN at hj ⊢
      by_cases e : j = rdT k c
      · rw [if_pos e] at hj ⊢
        have hT := (hb (rdT k c)).1
        obtain ⟨S, w1, w2⟩ := ih k (by omega)
        obtain ⟨S', w3, w4⟩ := wk_app w1 _ _ (far_w hst (f := k % 7) (j := c) (by omega))
        obtain ⟨m1, m2⟩ := rdT_m (k := k) (c := c) (by omega)
        rw [e, m1, m2]
        refine ⟨S', w3, fun i hi => ?_⟩
        rw [tb_or, Bool.or_eq_true] at hi
        rcases hi with hi | hi
        · exact w4 i (w2 i hi)
        · rw [decide_eq_true_iff] at hi
          subst hi
          exact (wkS_b hst hs _ _ _ w3).1
      · rw [if_neg e] at hj ⊢
        exact ih j hj
    · exact ih
theorem rdK_sd (hst : stB t) (h7 : tnc t ≤ 7) (hs : st < tnc t) : ∀ k, msd t st (rdK t need st k).2 ∧ ((rdK t need st k).1 < 1000 → ∃ S v, wkS t st (rdK t need st k).1 S v ∧ ∀ i, need.testBit i = true → S.testBit i = true)
  | 0 => by
    refine ⟨fun k hk => ?_, fun q => absurd q (by show ¬ 1000 < 1000; omega)⟩
    have hk' : (if k = 7 * (need &&& 2 ^ st) + st then 0 else 1000) < 1000 := hk
    show ∃ S, wkS t st (if k = 7 * (need &&& 2 ^ st) + st then 0 else 1000) S (k % 7) ∧ _
    by_cases e : k = 7 * (need &&& 2 ^ st) + st
    · rw [if_pos e]
      refine ⟨2 ^ st, ⟨rfl, by omega⟩, fun i hi => ?_⟩
      rw [show k / 7 = need &&& 2 ^ st by omega, Nat.testBit_and, Bool.and_eq_true] at hi
      exact hi.2
    · rw [if_neg e] at hk'; omega
  | k + 1 => by
    obtain ⟨i1, i2⟩ := rdK_sd hst h7 hs k
    have hB := rdK_B (need := need) h7 hs k
    rw [rdK_s]
    split
    · rename_i hk
      refine ⟨rdI_sd hst h7 hs hB.1 i1 _ (Nat.le_refl _), ?_⟩
      show (if k / 7 = need ∧ (rdK t need st k).2 k < (rdK t need st k).1 then (rdK t need st k).2 k else (rdK t need st k).1) < 1000 → ∃ S v, wkS t st (if k / 7 = need ∧ (rdK t need st k).2 k < (rdK t need st k).1 then (rdK t need st k).2 k else (rdK t need st k).1) S v ∧ _
      split
      · rename_i hn
        intro _
        obtain ⟨S, w1, w2⟩ := i1 k hk
        rw [hn.1] at w2
        exact ⟨S, _, w1, w2⟩
      · exact i2
    · exact ⟨i1, i2⟩
theorem rd_cl {k c : Nat} (hk : k < 896) (hg : (rdK t need st 896).2 k < 1000) (hc : c < tnc t) (h1 : need.testBit c = true) (h2 : (k / 7).testBit c = false) : (rdK t need st 896).2 (rdT k c) ≤ (rdK t need st 896).2 k + farM t (nI 0) (nI 0) (k % 7) c := by
  obtain ⟨-, a2, a3⟩ := rdK_mono (t := t) (need := need) (st := st) k (896 - k)
  obtain ⟨-, b2, -⟩ := rdK_mono (t := t) (need := need) (st := st) (k + 1) (896 - (k + 1))
  rw [show k + (896 - k) = 896 by omega] at a2 a3
  rw [show k + 1 + (896 - (k + 1)) = 896 by omega] at b2
  rw [a3 k (Nat.le_refl _)] at hg ⊢
  refine Nat.le_trans (b2 _) ?_
  rw [rdK_s, if_pos hg]
  exact rdI_cl h1 h2 _ hc
theorem rd_best {k : Nat} (hk : k < 896) (hg : (rdK t need st 896).2 k < 1000) (h1 : k / 7 = need) : (rdK t need st 896).1 ≤ (rdK t need st 896).2 k := by
  obtain ⟨-, a2, a3⟩ := rdK_mono (t := t) (need := need) (st := st) k (896 - k)
  obtain ⟨b1, -, -⟩ := rdK_mono (t := t) (need := need) (st := st) (k + 1) (896 - (k + 1))
  rw [show k + (896 - k) = 896 by omega] at a2 a3
  rw [show k + 1 + (896 - (k + 1)) = 896 by omega] at b1
  rw [a3 k (Nat.le_refl _)] at hg ⊢
  refine Nat.le_trans b1 ?_
  rw [rdK_s, if_pos hg]
  show (if k / 7 = need ∧ (rdK t need st k).2 k < (rdK t need st k).1 then (rdK t need st k).2 k else (rdK t need st k).1) ≤ _
  split
  · exact Nat.le_refl _
  · rename_i hn
    have : ¬ (rdK t need st k).2 k < (rdK t need st k).1 := fun q => hn ⟨h1, q⟩
    omega
theorem and_or_in {S v : Nat} (h : need.testBit v = true) : need &&& (S ||| 2 ^ v) = (need &&& S) ||| 2 ^ v := by
  refine Nat.eq_of_testBit_eq (fun i => ?_)
  rw [Nat.testBit_and, tb_or, tb_or, Nat.testBit_and]
  by_cases e : v = i
  · subst e; rw [h]; simp
  · rw [decide_eq_false e]; simp
theorem and_or_out {S v : Nat} (h : need.testBit v = false) : need &&& (S ||| 2 ^ v) = need &&& S := by
  refine Nat.eq_of_testBit_eq (fun i => ?_)
  rw [Nat.testBit_and, tb_or, Nat.testBit_and]
  by_cases e : v = i
  · subst e; rw [h]; simp
  · rw [decide_eq_false e]; simp
theorem rd_all (hst : stB t) (h7 : tnc t ≤ 7) (hs : st < tnc t) (hn : need < 128) : ∀ n S v, n < 1000 → wkS t st n S v → ∃ u, u < tnc t ∧ (rdK t need st 896).2 (7 * (need &&& S) + u) + farM t (nI 0) (nI 0) u v ≤ n
  | 0, S, v, _, h => by
    obtain ⟨h1, h2⟩ := h
    subst h1 h2
    refine ⟨v, hs, ?_⟩
    obtain ⟨-, a2, -⟩ := rdK_mono (t := t) (need := need) (st := v) 0 896
    have := a2 (7 * (need &&& 2 ^ v) + v)
    rw [Nat.zero_add, show (rdK t need v 0).2 (7 * (need &&& 2 ^ v) + v) = 0 from if_pos rfl] at this
    rw [far_0 hst]; omega
  | n + 1, S, v, hn1, h => by
    obtain ⟨u, S', hw, ha, e⟩ := h
    obtain ⟨x, hx, hle⟩ := rd_all hst h7 hs hn n S' u (by omega) hw
    have hv := (ha.lt hst).2
    have hf := far_1 hst h7 (f := x) ha
    have hand : need &&& S' < 128 := Nat.lt_of_le_of_lt Nat.and_le_left hn
    subst e
    cases hb : need.testBit v with
    | false => rw [and_or_out hb]; exact ⟨x, hx, by omega⟩
    | true =>
      cases hb2 : S'.testBit v with
      | true => rw [or_in hb2]; exact ⟨x, hx, by omega⟩
      | false =>
        have hcl := rd_cl (t := t) (st := st) (need := need) (k := 7 * (need &&& S') + x) (c := v) (by omega) (by omega) hv hb (by rw [show (7 * (need &&& S') + x) / 7 = need &&& S' by omega, Nat.testBit_and, hb2, Bool.and_false])
        unfold rdT at hcl
        rw [show (7 * (need &&& S') + x) / 7 = need &&& S' by omega, show (7 * (need &&& S') + x) % 7 = x by omega, ← and_or_in hb] at hcl
        exact ⟨v, hv, by rw [far_0 hst]; omega⟩
theorem and_sub {S : Nat} (h : ∀ i, need.testBit i = true → S.testBit i = true) : S &&& need = need := by
  refine Nat.eq_of_testBit_eq (fun i => ?_)
  rw [Nat.testBit_and]
  cases hb : need.testBit i with
  | true => rw [h i hb]; rfl
  | false => rw [Bool.and_false]
theorem round_eq (hst : stB t) (h7 : tnc t ≤ 7) (h10 : tns t ≤ 10) (hs : st < tnc t) (hn : need < 128) :
    ((rdK t need st 896).1 < 1000 ∧ lfB t st need (2 ^ tnc t) = (rdK t need st 896).1) ∨ (¬ (rdK t need st 896).1 < 1000 ∧ lfB t st need (2 ^ tnc t) = 1000000) := by
  have Sd := (rdK_sd (need := need) hst h7 hs 896).2
  have Al := rd_all (t := t) (st := st) (need := need) hst h7 hs hn
  have Be := fun k => rd_best (t := t) (st := st) (need := need) (k := k)
  generalize rdK t need st 896 = R at Sd Al Be ⊢
  have up : R.1 < 1000 → lfB t st need (2 ^ tnc t) ≤ R.1 := by
    intro h
    obtain ⟨S, v, w1, w2⟩ := Sd h
    obtain ⟨b1, b2, b3⟩ := wkS_b hst hs _ _ _ w1
    exact Nat.le_trans (lfB_le _ S v b3 (and_sub w2) b2) (lf_all hst hs (Nat.le_refl _) _ _ _ w1)
  have dn : lfB t st need (2 ^ tnc t) = 1000000 ∨ (lfB t st need (2 ^ tnc t) < 1000 ∧ R.1 ≤ lfB t st need (2 ^ tnc t)) := by
    rcases lfB_at (t := t) (st := st) (goal := need) (2 ^ tnc t) with q | ⟨S, c, hS, hg, hc, q⟩
    · exact Or.inl q
    · have hC7 : lfC S ≤ 7 := cntN_le _ _
      rcases lfT_B (t := t) (st := st) hst h7 h10 (2 ^ tnc t) S c with b | b
      · right
        have hlt : lfT t st (2 ^ tnc t) S c < 1000 := by omega
        have w := lfT_sd (t := t) (st := st) (2 ^ tnc t) S c (by omega)
        obtain ⟨u, hu, hle⟩ := Al _ S c hlt w
        rw [Nat.and_comm, hg] at hle
        have := Be (7 * need + u) (by omega) (by omega) (by omega)
        rw [q]
        exact ⟨hlt, by omega⟩
      · exact Or.inl (q.trans b)
  by_cases h : R.1 < 1000
  · left
    have := up h
    refine ⟨h, ?_⟩
    rcases dn with d | d <;> omega
  · right
    refine ⟨h, ?_⟩
    rcases dn with d | d <;> omega
end DF
