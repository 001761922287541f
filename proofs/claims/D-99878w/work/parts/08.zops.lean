/-! z-layer, 2: what the heap rows stand on -/
theorem zL.ld1 {lsA : Array Slot} {nL : Nat} {ls : List (Option Value)} {i : Nat} {v : Value} (h : zL lsA nL ls) (hi : ls[i]? = some (some v)) (hc : v.category = 1) : lsA[i]? = some (.val v) := h.2.2 i v hi (Or.inl hc)
def zprs (ls : List (Option Value)) : List (Nat × Value) := (List.range ls.length).filterMap fun i => match ls[i]? with
  | some (some v) => if v.category = 1 ∨ ls[i + 1]? = some none then some (i, v) else none
  | _ => none
theorem zprs_mem {ls : List (Option Value)} {i : Nat} {v : Value} (hi : ls[i]? = some (some v)) (hc : v.category = 1 ∨ ls[i + 1]? = some none) : (i, v) ∈ zprs ls := by
  unfold zprs
  rw [List.mem_filterMap]
  refine ⟨i, List.mem_range.mpr (List.getElem?_eq_some_iff.mp hi).1, ?_⟩
  rw [hi]
  simp [hc]
theorem zL.has {lsA : Array Slot} {nL : Nat} {ls : List (Option Value)} (h : zL lsA nL ls) : lv_has lsA nL (zprs ls) := by
  refine ⟨h.1, h.2.1, fun q hq => ?_⟩
  unfold zprs at hq
  rw [List.mem_filterMap] at hq
  obtain ⟨i, -, hi⟩ := hq
  split at hi
  · next v hv =>
    split at hi
    · next hc => cases hi; exact h.2.2 i v hv hc
    · cases hi
  · cases hi
theorem zset_get {ls : List (Option Value)} {i j : Nat} {v : Option Value} (h : j ≠ i) : (ls.set i v)[j]? = ls[j]? := by
  rw [List.getElem?_set]; simp [Ne.symm h]
theorem zset_self {ls : List (Option Value)} {i : Nat} {v w : Option Value} (h : (ls.set i v)[i]? = some w) : w = v := by
  rw [List.getElem?_set] at h
  simp at h
  exact h.2.symm
theorem zL.of1 {lsA : Array Slot} {nL : Nat} {ls : List (Option Value)} {i : Nat} {v : Value} (h : lv_has lsA nL ((i, v) :: (zprs ls).filter (fun q => !(q.1 == i) && !(q.1 + 1 == i && q.2.category == 2)))) : zL lsA nL (ls.set i (some v)) := by
  refine ⟨h.1, h.2.1, fun j w hj hc => ?_⟩
  by_cases hji : j = i
  · subst hji
    cases zset_self hj
    exact h.2.2 (j, v) List.mem_cons_self
  · rw [zset_get hji] at hj
    have hc' : w.category = 1 ∨ ls[j + 1]? = some none := by
      rcases hc with h1 | h1
      · exact Or.inl h1
      · by_cases hk : j + 1 = i
        · rw [hk] at h1; cases zset_self h1
        · rw [zset_get hk] at h1; exact Or.inr h1
    refine h.2.2 (j, w) (List.mem_cons_of_mem _ (List.mem_filter.mpr ⟨zprs_mem hj hc', ?_⟩))
    simp [hji]
    rcases hc with h1 | h1
    · right; omega
    · left; intro hk; rw [hk] at h1; cases zset_self h1
theorem zL.of2 {lsA : Array Slot} {nL : Nat} {ls : List (Option Value)} {i : Nat} {v : Value} (hv : v.category = 2) (h : lv_has lsA nL ((i, v) :: (zprs ls).filter (fun q => !(q.1 == i) && (!(q.1 == i + 1) && !(q.1 + 1 == i && q.2.category == 2))))) : zL lsA nL ((ls.set i (some v)).set (i + 1) none) := by
  refine ⟨h.1, h.2.1, fun j w hj hc => ?_⟩
  by_cases hji : j = i
  · subst hji
    rw [zset_get (by omega)] at hj
    cases zset_self hj
    exact h.2.2 (j, v) List.mem_cons_self
  · by_cases hji2 : j = i + 1
    · subst hji2
      cases zset_self hj
    · rw [zset_get hji2, zset_get hji] at hj
      have hc' : w.category = 1 ∨ ls[j + 1]? = some none := by
        rcases hc with h1 | h1
        · exact Or.inl h1
        · by_cases hk : j + 1 = i
          · rw [zset_get (by omega), hk] at h1; cases zset_self h1
          · by_cases hk2 : j + 1 = i + 1
            · omega
            · rw [zset_get hk2, zset_get hk] at h1; exact Or.inr h1
      refine h.2.2 (j, w) (List.mem_cons_of_mem _ (List.mem_filter.mpr ⟨zprs_mem hj hc', ?_⟩))
      simp [hji, hji2]
      rcases hc with h1 | h1
      · right; omega
      · left; intro hk; rw [zset_get (by omega), hk] at h1; cases zset_self h1
theorem zt_lt {E : zE} {X : zX} {H : Heap} {a : Nat} {q : zSh} (h : zRH E X H) (hq : X.2.1 a = some q) : a < H.size := by rw [h.1]; exact (h.2.1 a q hq).2.1
/-- one cell's ints change -/
theorem zRH.seti {E : zE} {X : zX} {H H1 : Heap} {a k : Nat} {v : Int32} {q : zSh} (h : zRH E X H) (hq : X.2.1 a = some q) (z : H1.size = H.size) (oq : ∀ b, b ≠ a → H1[b]? = H[b]?) (ha : zat E a q (fun j => if j = k then v else X.2.2.1 a j) (X.2.2.2 a) H1) : zRH E (X.1, X.2.1, zu X.2.2.1 a k v, X.2.2.2) H1 := by
  refine ⟨z.trans h.1, fun b r hr => ?_, by rw [z]; exact h.2.2.1, fun b hb => ?_⟩
  · refine ⟨(h.2.1 b r hr).1, (h.2.1 b r hr).2.1, ?_⟩
    by_cases hba : b = a
    · subst hba
      cases Option.some.inj (hq.symm.trans hr)
      show zat E b q (zu X.2.2.1 b k v b) _ _
      rw [zu_row]; exact ha
    · show zat E b r (zu X.2.2.1 a k v b) _ _
      rw [zu_ne _ _ hba]
      obtain ⟨h1, h2, h3, h4⟩ := (h.2.1 b r hr).2.2
      refine ⟨fun t => (oq b hba).trans (h1 t), fun t => (oq b hba).trans (h2 t), fun t t2 => (oq b hba).trans (h3 t t2), fun t => ?_⟩
      obtain ⟨r0, g1, g2⟩ := h4 t
      exact ⟨r0, g1, g2.kept (oq b hba)⟩
  · rw [oq b (fun hba => by subst hba; exact absurd hb (Nat.not_lt.mpr (h.2.1 b q hq).1))]
    exact h.2.2.2 b hb
/-- one cell's longs change -/
theorem zRH.setl {E : zE} {X : zX} {H H1 : Heap} {a k : Nat} {v : Int64} {q : zSh} (h : zRH E X H) (hq : X.2.1 a = some q) (z : H1.size = H.size) (oq : ∀ b, b ≠ a → H1[b]? = H[b]?) (ha : zat E a q (X.2.2.1 a) (fun j => if j = k then v else X.2.2.2 a j) H1) : zRH E (X.1, X.2.1, X.2.2.1, zu X.2.2.2 a k v) H1 := by
  refine ⟨z.trans h.1, fun b r hr => ?_, by rw [z]; exact h.2.2.1, fun b hb => ?_⟩
  · refine ⟨(h.2.1 b r hr).1, (h.2.1 b r hr).2.1, ?_⟩
    by_cases hba : b = a
    · subst hba
      cases Option.some.inj (hq.symm.trans hr)
      show zat E b q _ (zu X.2.2.2 b k v b) _
      rw [zu_row]; exact ha
    · show zat E b r _ (zu X.2.2.2 a k v b) _
      rw [zu_ne _ _ hba]
      obtain ⟨h1, h2, h3, h4⟩ := (h.2.1 b r hr).2.2
      refine ⟨fun t => (oq b hba).trans (h1 t), fun t => (oq b hba).trans (h2 t), fun t t2 => (oq b hba).trans (h3 t t2), fun t => ?_⟩
      obtain ⟨r0, g1, g2⟩ := h4 t
      exact ⟨r0, g1, g2.kept (oq b hba)⟩
  · rw [oq b (fun hba => by subst hba; exact absurd hb (Nat.not_lt.mpr (h.2.1 b q hq).1))]
    exact h.2.2.2 b hb
/-- one cell's references change -/
theorem zRH.setr {E : zE} {X : zX} {H H1 : Heap} {a k : Nat} {v : Option Nat} {q : zSh} (h : zRH E X H) (hq : X.2.1 a = some q) (z : H1.size = H.size) (oq : ∀ b, b ≠ a → H1[b]? = H[b]?) (ha : zat E a (q.1, q.2.1, va_up q.2.2 k v) (X.2.2.1 a) (X.2.2.2 a) H1) : zRH E (X.1, zur X.2.1 a k v, X.2.2.1, X.2.2.2) H1 := by
  refine ⟨z.trans h.1, fun b r hr => ?_, by rw [z]; exact h.2.2.1, fun b hb => ?_⟩
  · by_cases hba : b = a
    · subst hba
      have hr' : r = (q.1, q.2.1, va_up q.2.2 k v) := by
        have : zur X.2.1 b k v b = some r := hr
        unfold zur at this
        rw [if_pos rfl] at this
        simp only [zt, zn, zr, hq] at this
        exact (Option.some.inj this).symm
      subst hr'
      exact ⟨(h.2.1 b q hq).1, (h.2.1 b q hq).2.1, ha⟩
    · have hr' : X.2.1 b = some r := by
        have : zur X.2.1 a k v b = some r := hr
        unfold zur at this
        rw [if_neg hba] at this
        exact this
      obtain ⟨h1, h2, h3, h4⟩ := (h.2.1 b r hr').2.2
      refine ⟨(h.2.1 b r hr').1, (h.2.1 b r hr').2.1, fun t => (oq b hba).trans (h1 t), fun t => (oq b hba).trans (h2 t), fun t t2 => (oq b hba).trans (h3 t t2), fun t => ?_⟩
      obtain ⟨r0, g1, g2⟩ := h4 t
      exact ⟨r0, g1, g2.kept (oq b hba)⟩
  · rw [oq b (fun hba => by subst hba; exact absurd hb (Nat.not_lt.mpr (h.2.1 b q hq).1))]
    exact h.2.2.2 b hb
/-- a new cell -/
def znew (X : zX) (q : zSh) : zX := (X.1 + 1, (fun b => if b = X.1 then some q else X.2.1 b), (fun b => if b = X.1 then fun _ => 0 else X.2.2.1 b), (fun b => if b = X.1 then fun _ => 0 else X.2.2.2 b))
theorem zRH.push {E : zE} {X : zX} {H H1 : Heap} {q : zSh} (h : zRH E X H) (z : H1.size = H.size + 1) (oq : ∀ b, b < H.size → H1[b]? = H[b]?) (ha : zat E H.size q (fun _ => 0) (fun _ => 0) H1) : zRH E (znew X q) H1 := by
  refine ⟨by rw [z, h.1]; rfl, fun b r hr => ?_, by rw [z]; exact Nat.le_trans h.2.2.1 (Nat.le_succ _), fun b hb => ?_⟩
  · by_cases hba : b = X.1
    · subst hba
      have hr' : (if X.1 = X.1 then some q else X.2.1 X.1) = some r := hr
      rw [if_pos rfl] at hr'
      cases hr'
      refine ⟨by rw [← h.1]; exact h.2.2.1, Nat.lt_succ_self _, ?_⟩
      show zat E X.1 q (if X.1 = X.1 then fun _ => 0 else X.2.2.1 X.1) (if X.1 = X.1 then fun _ => 0 else X.2.2.2 X.1) H1
      rw [if_pos rfl, if_pos rfl, ← h.1]
      exact ha
    · have hr' : X.2.1 b = some r := by
        have : (if b = X.1 then some q else X.2.1 b) = some r := hr
        rw [if_neg hba] at this
        exact this
      have hlt := zt_lt h hr'
      refine ⟨(h.2.1 b r hr').1, Nat.lt_succ_of_lt (h.2.1 b r hr').2.1, ?_⟩
      show zat E b r (if b = X.1 then fun _ => 0 else X.2.2.1 b) (if b = X.1 then fun _ => 0 else X.2.2.2 b) H1
      rw [if_neg hba, if_neg hba]
      obtain ⟨h1, h2, h3, h4⟩ := (h.2.1 b r hr').2.2
      refine ⟨fun t => (oq b hlt).trans (h1 t), fun t => (oq b hlt).trans (h2 t), fun t t2 => (oq b hlt).trans (h3 t t2), fun t => ?_⟩
      obtain ⟨r0, g1, g2⟩ := h4 t
      exact ⟨r0, g1, g2.kept (oq b hlt)⟩
  · rw [oq b (Nat.lt_of_lt_of_le hb h.2.2.1)]
    exact h.2.2.2 b hb
theorem zlocs {E : zE} {locs : List Loc} {a k : Nat} (h : ∀ q ∈ locs, E.2.2.1.size ≤ q.base) (ha : E.2.2.1.size ≤ a) : ∀ q ∈ locs ++ [(⟨a, k⟩ : Loc)], E.2.2.1.size ≤ q.base := by
  intro q hq
  rcases List.mem_append.mp hq with h1 | h1
  · exact h q h1
  · rw [List.mem_singleton.mp h1]; exact ha
theorem ztys_at {E : zE} {t : Nat} (ht : t < 11) : (ztys E)[t]? = some (E.2.1 t, zty t) := by
  unfold ztys
  rw [List.getElem?_map, List.getElem?_range ht]; rfl
