/-! the component's parser: laws -/
section FD0
variable {A : List zTk}
theorem mxM {β : Type} {k : Nat} {q : zCu} {g : zCu → zPR (β × zCu)} (hq : q.1 ≤ 400) (h : ∀ q', pMust A k q = .ok q' → q'.1 ≤ mx (g q')) : q.1 ≤ mx (pB (pMust A k q) g) := by
  cases hm : pMust A k q with
  | error e => show q.1 ≤ 401; omega
  | ok q' => have := h q' hm; have e := (cMust_ok hm).1; show q.1 ≤ mx (g q'); rw [e] at this; rw [e]; have : q.1 + 1 ≤ mx (g (q.1 + 1, q.2)) := this; omega
theorem mxG {β : Type} {q : zCu} {g : zCu → zPR (β × zCu)} (hq : q.1 ≤ 400) (h : ∀ q', pGo A q = .ok q' → q'.1 ≤ mx (g q')) : q.1 ≤ mx (pB (pGo A q) g) := by
  cases hm : pGo A q with
  | error e => show q.1 ≤ 401; omega
  | ok q' => have := h q' hm; have e := (cGo_ok hm).1; show q.1 ≤ mx (g q'); rw [e] at this; rw [e]; have : q.1 + 1 ≤ mx (g (q.1 + 1, q.2)) := this; omega
theorem mxX {β : Type} {q : zCu} {g : zCd × zCu → zPR (β × zCu)} (hq : q.1 ≤ 400) (h : ∀ r, rdX A 6 q = .ok r → r.2.1 ≤ 400 → r.2.1 ≤ mx (g r)) : q.1 ≤ mx (pB (rdX A 6 q) g) := by
  have h1 := mx_rd (rdX_ok A 6) hq
  have h2 : mx (rdX A 6 q) ≤ mx (pB (rdX A 6 q) g) := mx_pB (fun r hr => h r hr (rdX_ok A 6 q r.1 r.2 hr hq).1.2.2)
  omega
theorem go4 {q q' : zCu} (h : pGo A q = .ok q') (hq : q.1 ≤ 400) : q'.1 ≤ 400 := by
  obtain ⟨e, h4⟩ := cGo_ok h
  rw [e]; show q.1 + 1 ≤ 400; omega
theorem mu4 {k : Nat} {q q' : zCu} (h : pMust A k q = .ok q') (hq : q.1 ≤ 400) : q'.1 ≤ 400 := by
  obtain ⟨e, -, h4⟩ := cMust_ok h
  rw [e]; show q.1 + 1 ≤ 400; omega
def lw3 (A : List zTk) (f : Nat) (acc : List zBr3) (c1 c2 : zCd) (q : zCu) : zPR (List zBr3 × zCu) := pB (rdX A 6 q) (fun r3 => pB (pMust A 33 r3.2) (fun q4 => pLwL A f (acc ++ [(true, c1, c2, r3.1)]) q4))
def lw2 (A : List zTk) (f : Nat) (acc : List zBr3) (c1 : zCd) (q : zCu) : zPR (List zBr3 × zCu) := pB (rdX A 6 q) (fun r2 => pB (pMust A 32 r2.2) (fun q3 => lw3 A f acc c1 r2.1 q3))
def lw1 (A : List zTk) (f : Nat) (acc : List zBr3) (q : zCu) : zPR (List zBr3 × zCu) := pB (rdX A 6 q) (fun r1 => pB (pMust A 13 r1.2) (fun q2 => lw2 A f acc r1.1 q2))
theorem lwL_s (f : Nat) (acc : List zBr3) (q : zCu) : pLwL A (f + 1) acc q = if tkK A q.1 = 31 then pB (pGo A q) (lw1 A f acc) else pLst A acc q := rfl
theorem lst_mono {acc : List zBr3} {q : zCu} (hq : q.1 ≤ 400) : q.1 ≤ mx (pLst A acc q) := mxX hq (fun r _ _ => Nat.le_refl _)
theorem lw_mono : ∀ f, (∀ acc q, q.1 ≤ 400 → q.1 ≤ mx (pLwL A f acc q)) := by
  intro f
  induction f with
  | zero =>
    intro acc q hq
    show q.1 ≤ mx (if tkK A q.1 = 31 then pErr A 2 q.1 else pLst A acc q)
    split
    · show q.1 ≤ 401; omega
    · exact lst_mono hq
  | succ f ih =>
    intro acc q hq
    rw [lwL_s]
    split
    · exact mxG hq (fun q1 h1 => mxX (go4 h1 hq) (fun r1 _ b1 => mxM b1 (fun q2 h2 => mxX (mu4 h2 b1) (fun r2 _ b2 => mxM b2 (fun q3 h3 => mxX (mu4 h3 b2) (fun r3 _ b3 => mxM b3 (fun q4 h4 => ih _ q4 (mu4 h4 b3))))))))
    · exact lst_mono hq
theorem lw3_mono {f : Nat} {acc : List zBr3} {c1 c2 : zCd} {q : zCu} (hq : q.1 ≤ 400) : q.1 ≤ mx (lw3 A f acc c1 c2 q) := mxX hq (fun r3 _ b3 => mxM b3 (fun q4 h4 => lw_mono f _ q4 (mu4 h4 b3)))
theorem lw2_mono {f : Nat} {acc : List zBr3} {c1 : zCd} {q : zCu} (hq : q.1 ≤ 400) : q.1 ≤ mx (lw2 A f acc c1 q) := mxX hq (fun r2 _ b2 => mxM b2 (fun q3 h3 => lw3_mono (mu4 h3 b2)))
theorem lw1_mono {f : Nat} {acc : List zBr3} {q : zCu} (hq : q.1 ≤ 400) : q.1 ≤ mx (lw1 A f acc q) := mxX hq (fun r1 _ b1 => mxM b1 (fun q2 h2 => lw2_mono (mu4 h2 b1)))
theorem law_mono {q : zCu} (hq : q.1 ≤ 400) : q.1 ≤ mx (pLaw A q) := mxM hq (fun q2 h2 => lw_mono 4 _ q2 (mu4 h2 hq))
end FD0
theorem isSum.cls {h : Nat → Option zSh} {S : Nat → Nat → Int32} {ok : Nat → Prop} {d a : Nat} {cl : zCd} (hs : isSum h S ok d a cl) : ∃ k ∈ [13, 14, 15], zt h a = 20 + k := by
  cases d with
  | zero => exact hs.elim
  | succ d =>
    obtain ⟨-, ⟨h1, -⟩ | ⟨h1, -⟩ | ⟨h1, -⟩⟩ := hs
    · exact ⟨13, by simp, h1⟩
    · exact ⟨14, by simp, h1⟩
    · exact ⟨15, by simp, h1⟩
/-- the cells of a law's sums -/
def lwD (z z1 : Nat) : Nat → Prop := fun b => z + 4 ≤ b ∧ b < z1
/-- a law while it is read: object z, its rows z + 1 .. z + 3 -/
def lwS (h : Nat → Option zSh) (S : Nat → Nat → Int32) (z z1 : Nat) (acc : List zBr3) (o1 o2 : Option zCd) : Prop :=
  (zt h z = 31 ∧ zr h z 0 = some (z + 1) ∧ zr h z 1 = some (z + 2) ∧ zr h z 2 = some (z + 3)) ∧ ((zt h (z + 1) = 8 ∧ zn h (z + 1) = 4) ∧ (zt h (z + 2) = 8 ∧ zn h (z + 2) = 4) ∧ zt h (z + 3) = 8 ∧ zn h (z + 3) = 5) ∧ z + 4 ≤ z1 ∧ (S z 3 = nI acc.length ∧ acc.length ≤ 4 ∧ ∀ q ∈ acc, q.1 = true) ∧
  (∀ i, i < acc.length → (∃ x, zr h (z + 1) i = some x ∧ isSum h S (lwD z z1) 400 x (acc.getD i b30).2.1) ∧ (∃ x, zr h (z + 2) i = some x ∧ isSum h S (lwD z z1) 400 x (acc.getD i b30).2.2.1) ∧ ∃ x, zr h (z + 3) i = some x ∧ isSum h S (lwD z z1) 400 x (acc.getD i b30).2.2.2) ∧
  (∀ cd, o1 = some cd → ∃ x, zr h (z + 1) acc.length = some x ∧ isSum h S (lwD z z1) 400 x cd) ∧ (∀ cd, o2 = some cd → ∃ x, zr h (z + 2) acc.length = some x ∧ isSum h S (lwD z z1) 400 x cd)
section FD
variable {l : Launch} {E : zE} {z : Nat} {h : Nat → Option zSh} {S : Nat → Nat → Int32} {L : Nat → Nat → Int64} {c : Nat} {P : List Int32} {A : List zTk} {N : Nat} {q : zCu} {o : Nat}
theorem lwS.g {h1 h2 : Nat → Option zSh} {S1 S2 : Nat → Nat → Int32} {L1 L2 : Nat → Nat → Int64} {z z1 z2 : Nat} {acc : List zBr3} {o1 o2 : Option zCd} (hcz : c + 606 ≤ z) (hs : lwS h1 S1 z z1 acc o1 o2) (g : pG c (z1, h1, S1, L1) (z2, h2, S2, L2)) : lwS h2 S2 z z2 acc o1 o2 := by
  obtain ⟨⟨a1, a2, a3, a4⟩, ⟨⟨b1, b2⟩, ⟨b3, b4⟩, b5, b6⟩, b7, ⟨b8, b9, b10⟩, b11, b12, b13⟩ := hs
  have hz : z1 ≤ z2 := g.1
  have ft : ∀ b, b < z1 → zt h2 b = zt h1 b ∧ zn h2 b = zn h1 b ∧ zr h2 b = zr h1 b := fun b hb => by
    have : h2 b = h1 b := (g.2 b hb).1
    unfold zt zn zr; rw [this]; exact ⟨rfl, rfl, rfl⟩
  have hS : ∀ b, z ≤ b → b < z1 → S2 b = S1 b := fun b h1 h2 => (g.2 b h2).2.1 (by omega) (by omega)
  have up : ∀ {x d cd}, isSum h1 S1 (lwD z z1) d x cd → isSum h2 S2 (lwD z z2) d x cd := fun hs => hs.fr (fun b hb => hS b (by unfold lwD at hb; omega) hb.2) (fun b hb => (g.2 b hb.2).1) (fun b hb => ⟨hb.1, by unfold lwD at hb; omega⟩)
  refine ⟨⟨by rw [(ft z (by omega)).1]; exact a1, by rw [(ft z (by omega)).2.2]; exact a2, by rw [(ft z (by omega)).2.2]; exact a3, by rw [(ft z (by omega)).2.2]; exact a4⟩, ⟨⟨by rw [(ft _ (by omega)).1]; exact b1, by rw [(ft _ (by omega)).2.1]; exact b2⟩, ⟨by rw [(ft _ (by omega)).1]; exact b3, by rw [(ft _ (by omega)).2.1]; exact b4⟩, by rw [(ft _ (by omega)).1]; exact b5, by rw [(ft _ (by omega)).2.1]; exact b6⟩, by omega, ⟨by rw [hS z (by omega) (by omega)]; exact b8, b9, b10⟩, fun i hi => ?_, fun cd e => ?_, fun cd e => ?_⟩
  · rw [(ft (z + 1) (by omega)).2.2, (ft (z + 2) (by omega)).2.2, (ft (z + 3) (by omega)).2.2]
    obtain ⟨⟨x1, y1, w1⟩, ⟨x2, y2, w2⟩, x3, y3, w3⟩ := b11 i hi
    exact ⟨⟨x1, y1, up w1⟩, ⟨x2, y2, up w2⟩, x3, y3, up w3⟩
  · rw [(ft (z + 1) (by omega)).2.2]
    obtain ⟨x1, y1, w1⟩ := b12 cd e
    exact ⟨x1, y1, up w1⟩
  · rw [(ft (z + 2) (by omega)).2.2]
    obtain ⟨x1, y1, w1⟩ := b13 cd e
    exact ⟨x1, y1, up w1⟩
/-- a sum is put into a row of the law -/
theorem lwS.put {h : Nat → Option zSh} {S : Nat → Nat → Int32} {z z1 k x : Nat} {acc : List zBr3} {o1 o2 : Option zCd} {cd : zCd} (hk : k = 1 ∨ k = 2 ∨ k = 3) (hs : lwS h S z z1 acc o1 o2) (hx : isSum h S (lwD z z1) 400 x cd) : lwS (zur h (z + k) acc.length (some x)) S z z1 acc (if k = 1 then some cd else o1) (if k = 2 then some cd else o2) ∧ (zr (zur h (z + k) acc.length (some x)) (z + k) acc.length = some x ∧ isSum (zur h (z + k) acc.length (some x)) S (lwD z z1) 400 x cd) := by
  obtain ⟨⟨a1, a2, a3, a4⟩, ⟨⟨b1, b2⟩, ⟨b3, b4⟩, b5, b6⟩, b7, ⟨b8, b9, b10⟩, b11, b12, b13⟩ := hs
  have up : ∀ {x' d cd}, isSum h S (lwD z z1) d x' cd → isSum (zur h (z + k) acc.length (some x)) S (lwD z z1) d x' cd := fun hs => hs.fr (fun _ _ => rfl) (fun b hb => zur_ne (by unfold lwD at hb; omega)) (fun _ hb => hb)
  refine ⟨⟨⟨by rw [zur_t]; exact a1, by rw [zur_ro (by omega)]; exact a2, by rw [zur_ro (by omega)]; exact a3, by rw [zur_ro (by omega)]; exact a4⟩, ⟨⟨by rw [zur_t]; exact b1, by rw [zur_n]; exact b2⟩, ⟨by rw [zur_t]; exact b3, by rw [zur_n]; exact b4⟩, by rw [zur_t]; exact b5, by rw [zur_n]; exact b6⟩, b7, ⟨b8, b9, b10⟩, fun i hi => ?_, fun cd' e => ?_, fun cd' e => ?_⟩, zur_rs, up hx⟩
  · obtain ⟨⟨x1, y1, w1⟩, ⟨x2, y2, w2⟩, x3, y3, w3⟩ := b11 i hi
    rw [zur_rk (by omega), zur_rk (by omega), zur_rk (by omega)]
    exact ⟨⟨x1, y1, up w1⟩, ⟨x2, y2, up w2⟩, x3, y3, up w3⟩
  · by_cases e1 : k = 1
    · subst e1
      rw [if_pos rfl] at e
      cases e
      exact ⟨x, zur_rs, up hx⟩
    · rw [if_neg e1] at e
      obtain ⟨x1, y1, w1⟩ := b12 cd' e
      exact ⟨x1, by rw [zur_ro (by omega)]; exact y1, up w1⟩
  · by_cases e1 : k = 2
    · subst e1
      rw [if_pos rfl] at e
      cases e
      exact ⟨x, zur_rs, up hx⟩
    · rw [if_neg e1] at e
      obtain ⟨x1, y1, w1⟩ := b13 cd' e
      exact ⟨x1, by rw [zur_ro (by omega)]; exact y1, up w1⟩
theorem zX11_init {a : Nat} (ht : zt h a = 31) (hz : a < z) : zM l E 1 YX11_init [.ref a] (z, h, S, L) 3 13 (fun r X => r = none ∧ ∃ h' S' L', X = (z + 3, h', S', L') ∧ (∀ b, b < z → b ≠ a → h' b = h b) ∧ (∀ b, b < z → S' b = S b ∧ L' b = L b) ∧ zt h' a = 31 ∧ (zr h' a 0 = some z ∧ zr h' a 1 = some (z + 1) ∧ zr h' a 2 = some (z + 2)) ∧ (zt h' z = 8 ∧ zn h' z = 4) ∧ (zt h' (z + 1) = 8 ∧ zn h' (z + 1) = 4) ∧ zt h' (z + 2) = 8 ∧ zn h' (z + 2) = 5) (fun _ _ => False) := by
  refine zM.go rfl rfl (Nat.le_of_ble_eq_true rfl) (ls := [some (.ref a)]) rfl ?_
  intro V hVl hVE hVd hVc hVs hVQ hVX
  have hp4 : (nI 4 < (0 : Int32)) = False := eq_false (by decide)
  have hp5 : (nI 5 < (0 : Int32)) = False := eq_false (by decide)
  refine sX11_init_0 (by omega) _ _ _ _ _ ?_
  simp (disch := omega) only [oAld, oNewa, oObj, oPR, oPush, oRV, ht, hp4, hp5, hVc, hVs, List.getElem?_cons_zero, List.getElem?_cons_succ, List.set_cons_zero, List.set_cons_succ, List.drop_succ_cons, List.drop_zero, List.take_succ_cons, List.take_zero, List.length_cons, List.length_nil, List.reverse_cons, List.reverse_nil, List.nil_append, List.cons_append, Option.toList_some, Option.toList_none, va_rf_s, true_and, and_true, true_implies, false_implies, not_true_eq_false, not_false_eq_true, Nat.reduceAdd, Nat.reduceLeDiff, Nat.le_add_left, Nat.zero_le, Nat.le_refl, true_or, or_true, b01_t, b01_f, b01_ok, bool_ft, vp_b01, vp_b0, vp_b1, b01_eq0, b01_eq1, implies_true, zneq, hN_ts, hN_to, hN_ns, hN_no, hN_rs, hN_ro, SN_s, SN_o, zur_t, zur_n, zur_rs, zur_rk, zur_ro, nI_add, nI_clamp, zi_in, zi_le_t, zi_le_f, zi_lt_t, zi_lt_f, zi_eq_t, zi_eq_f, nI_leI, nI_ltI, nI_eq, z_in, pk_mul, zu_same, zu_rw, zu_ix, zi_ne0, zi_sub, zi_m1, Nat.add_sub_cancel, Nat.reduceMul, Nat.reduceSub]
  refine hVQ _ _ ⟨rfl, _, _, _, rfl, fun b h1 h2 => ?_, fun b h1 => ⟨?_, ?_⟩, ?_, ⟨?_, ?_, ?_⟩, ⟨?_, ?_⟩, ⟨?_, ?_⟩, ?_, ?_⟩
  · rw [zur_ne h2, hN_o (by omega), zur_ne h2, hN_o (by omega), zur_ne h2, hN_o (by omega)]
  · rw [SN_o (by omega), SN_o (by omega), SN_o (by omega)]
  · rw [LN_o (by omega), LN_o (by omega), LN_o (by omega)]
  · rw [zur_t, hN_to (by omega), zur_t, hN_to (by omega), zur_t, hN_to (by omega)]; exact ht
  · rw [zur_rk (by omega), hN_ro (by omega), zur_rk (by omega), hN_ro (by omega)]; exact zur_rs
  · rw [zur_rk (by omega), hN_ro (by omega)]; exact zur_rs
  · exact zur_rs
  · rw [zur_t, hN_to (by omega), zur_t, hN_to (by omega), zur_t]; exact hN_ts
  · rw [zur_n, hN_no (by omega), zur_n, hN_no (by omega), zur_n]; exact hN_ns
  · rw [zur_t, hN_to (by omega), zur_t]; exact hN_ts
  · rw [zur_n, hN_no (by omega), zur_n]; exact hN_ns
  · rw [zur_t]; exact hN_ts
  · rw [zur_n]; exact hN_ns
end FD
