/-! sums as read: how far, how long, how deep -/
theorem pB_inv {α β : Type} {x : zPR α} {f : α → zPR β} {r : β} (h : pB x f = .ok r) : ∃ a, x = .ok a ∧ f a = .ok r := by
  cases x with
  | error e => cases h
  | ok a => exact ⟨a, rfl, h⟩
theorem pGo_inv {A : List zTk} {q q1 : zCu} (h : pGo A q = .ok q1) : q1 = (q.1 + 1, q.2) ∧ ¬ q.1 = 400 := by
  unfold pGo at h
  split at h
  · cases h
  · rename_i h4; cases h; exact ⟨rfl, h4⟩
theorem pMust_inv {A : List zTk} {k : Nat} {q q1 : zCu} (h : pMust A k q = .ok q1) : tkK A q.1 = k ∧ q1 = (q.1 + 1, q.2) ∧ ¬ q.1 = 400 := by
  unfold pMust at h
  split at h
  · rename_i hk; exact ⟨hk, pGo_inv h⟩
  · cases h
theorem tdep_app : ∀ (a b : zCd) (d : Nat), tdep (a ++ b) d = (tdep a d).bind (tdep b)
  | [], b, d => rfl
  | q :: a, b, d => by
    rw [List.cons_append, tdep, tdep]
    split
    · exact tdep_app a b _
    · split
      · split
        · exact tdep_app a b _
        · rfl
      · split
        · exact tdep_app a b _
        · rfl
def one1 (c : zCd) : Prop := ∀ d, tdep c d = some (d + 1)
theorem one1_op {c c1 : zCd} (h : one1 c) (h1 : one1 c1) (k : Nat) : one1 (c ++ (c1 ++ [(opN k, nI 0)])) := by
  intro d
  rw [tdep_app, h d, Option.bind_some, tdep_app, h1 (d + 1), Option.bind_some]
  have ho : opN k = 2 ∨ opN k = 3 ∨ opN k = 4 ∨ opN k = 5 := by
    unfold opN; split
    · simp
    · split
      · simp
      · split <;> simp
  have h2 : 2 ≤ opN k ∧ opN k ≤ 5 := by omega
  rw [tdep]
  simp only [tdep]
  rw [if_neg (by omega), if_neg (by omega), if_pos ⟨h2.2, by omega⟩]
  congr 1
/-- a reader that is good -/
def rdOk (u : zRd) : Prop := ∀ q c q', u q = .ok (c, q') → q.1 ≤ 400 → (q.1 + c.length ≤ q'.1 ∧ 1 ≤ c.length ∧ q'.1 ≤ 400) ∧ q'.2 = q.2 ∧ one1 c
theorem rdU_ok {A : List zTk} {l : Nat} {sub : zRd} (hs : l ≠ 0 → rdOk sub) : rdOk (rdU A l sub) := by
  intro q c q' h h4
  have key : ∀ (x : zCd), x.length = 1 → one1 x → pB (pGo A q) (fun q' => .ok (x, q')) = .ok (c, q') → (q.1 + c.length ≤ q'.1 ∧ 1 ≤ c.length ∧ q'.1 ≤ 400) ∧ q'.2 = q.2 ∧ one1 c := by
    intro x hx h1 he
    obtain ⟨q1, hg, he⟩ := pB_inv he
    obtain ⟨rfl, hq⟩ := pGo_inv hg
    cases he
    exact ⟨⟨by show q.1 + c.length ≤ q.1 + 1; omega, by omega, by show q.1 + 1 ≤ 400; omega⟩, rfl, h1⟩
  unfold rdU at h
  split at h
  · exact key _ rfl (fun d => rfl) h
  · split at h
    · rename_i hk
      refine key _ rfl (fun d => ?_) h
      have : okI (nI (tkK A q.1 - 34)) 9 = true := by rw [okI_nI (by omega)]; exact decide_eq_true (by omega)
      rw [tdep, if_neg (by simp), if_pos rfl, if_pos this]; rfl
    · split at h
      · split at h
        · cases h
        · rename_i hl
          obtain ⟨q1, hg, h⟩ := pB_inv h
          obtain ⟨rfl, hq⟩ := pGo_inv hg
          obtain ⟨⟨c2, q2⟩, hx, h⟩ := pB_inv h
          obtain ⟨q3, hm, h⟩ := pB_inv h
          obtain ⟨-, rfl, hq3⟩ := pMust_inv hm
          cases h
          obtain ⟨⟨h1, h2, h3⟩, h5, h6⟩ := hs hl _ _ _ hx (by show q.1 + 1 ≤ 400; omega)
          have h1' : q.1 + 1 + c2.length ≤ q2.1 := h1
          have hq3' : ¬ q2.1 = 400 := hq3
          exact ⟨⟨by show q.1 + c2.length ≤ q2.1 + 1; omega, h2, by show q2.1 + 1 ≤ 400; omega⟩, h5, h6⟩
      · cases h
theorem rdL_ok {A : List zTk} {k1 k2 : Nat} {u : zRd} (hu : rdOk u) : ∀ f c q c' q', rdL A k1 k2 u f c q = .ok (c', q') → q.1 ≤ 400 → one1 c → (q.1 + c'.length ≤ q'.1 + c.length ∧ c.length ≤ c'.length ∧ q.1 ≤ q'.1 ∧ q'.1 ≤ 400) ∧ q'.2 = q.2 ∧ one1 c'
  | 0, c, q, c', q', h, h4, h1 => by
    cases h
    exact ⟨⟨Nat.le_refl _, Nat.le_refl _, Nat.le_refl _, h4⟩, rfl, h1⟩
  | f + 1, c, q, c', q', h, h4, h1 => by
    rw [rdL] at h
    split at h
    · obtain ⟨q1, hg, h⟩ := pB_inv h
      obtain ⟨rfl, hq⟩ := pGo_inv hg
      obtain ⟨⟨c2, q2⟩, hx, h⟩ := pB_inv h
      obtain ⟨⟨g1, g2, g3⟩, g5, g6⟩ := hu _ _ _ hx (by show q.1 + 1 ≤ 400; omega)
      obtain ⟨⟨k1, k2, k3, k4⟩, k5, k6⟩ := rdL_ok hu f _ _ _ _ h g3 (one1_op h1 g6 _)
      have g1' : q.1 + 1 + c2.length ≤ q2.1 := g1
      have k1' : q2.1 + c'.length ≤ q'.1 + (c ++ (c2 ++ [(opN (tkK A q.1), nI 0)])).length := k1
      have k2' : (c ++ (c2 ++ [(opN (tkK A q.1), nI 0)])).length ≤ c'.length := k2
      have k3' : q2.1 ≤ q'.1 := k3
      simp only [List.length_append, List.length_cons, List.length_nil] at k1' k2'
      exact ⟨⟨by omega, by omega, by omega, k4⟩, k5.trans g5, k6⟩
    · cases h
      exact ⟨⟨Nat.le_refl _, Nat.le_refl _, Nat.le_refl _, h4⟩, rfl, h1⟩
theorem rdG_ok {A : List zTk} {k1 k2 : Nat} {u : zRd} (hu : rdOk u) : rdOk (rdG A k1 k2 u) := by
  intro q c q' h h4
  obtain ⟨⟨c1, q1⟩, hx, h⟩ := pB_inv h
  obtain ⟨⟨g1, g2, g3⟩, g5, g6⟩ := hu _ _ _ hx h4
  obtain ⟨⟨k1, k2, k3, k4⟩, k5, k6⟩ := rdL_ok hu _ _ _ _ _ h g3 g6
  have k1' : q1.1 + c.length ≤ q'.1 + c1.length := k1
  have k2' : c1.length ≤ c.length := k2
  exact ⟨⟨by omega, by omega, k4⟩, k5.trans g5, k6⟩
theorem rdX_ok (A : List zTk) : ∀ l, rdOk (rdX A l)
  | 0 => rdG_ok (rdG_ok (rdU_ok (fun h => absurd rfl h)))
  | l + 1 => rdG_ok (rdG_ok (rdU_ok (fun _ => rdX_ok A l)))
theorem rdW_ok (A : List zTk) (l : Nat) : rdOk (rdW A l) := by
  cases l with
  | zero => exact rdU_ok (fun h => absurd rfl h)
  | succ l => exact rdU_ok (fun _ => rdX_ok A l)
/-- fuel enough: behind the loop no sign of its kind -/
theorem rdL_end {A : List zTk} {k1 k2 : Nat} {u : zRd} (hu : rdOk u) : ∀ f c q c' q', rdL A k1 k2 u f c q = .ok (c', q') → q.1 ≤ 400 → 400 < f + q.1 → tkK A q'.1 ≠ k1 ∧ tkK A q'.1 ≠ k2
  | 0, c, q, c', q', h, h4, hf => by omega
  | f + 1, c, q, c', q', h, h4, hf => by
    rw [rdL] at h
    split at h
    · obtain ⟨q1, hg, h⟩ := pB_inv h
      obtain ⟨rfl, hq⟩ := pGo_inv hg
      obtain ⟨⟨c2, q2⟩, hx, h⟩ := pB_inv h
      obtain ⟨⟨g1, g2, g3⟩, g5, g6⟩ := hu _ _ _ hx (by show q.1 + 1 ≤ 400; omega)
      have g1' : q.1 + 1 + c2.length ≤ q2.1 := g1
      exact rdL_end hu f _ _ _ _ h g3 (by show 400 < f + q2.1; omega)
    · rename_i hk
      cases h
      exact ⟨fun e => hk (Or.inl e), fun e => hk (Or.inr e)⟩
