/-! z-layer: copying of arrays, virtual calls by a table, dead ends -/
def oBot : zK := fun _ _ _ _ _ => False
theorem z_bot {V : zV} {Y : zY} {pc : Nat} : ∀ ls st X k n, oBot ls st X k n → zW V Y pc ls st X k n := fun _ _ _ _ _ h => h.elim
/-- a virtual call: the receiver is of one of these classes -/
def oCVs (V : zV) (tbl : List (Nat × zY)) (na : Nat) (KX : List (Option Value) → Nat → zX → Nat → Nat → Prop) (K : zK) : zK := fun ls st X k n => match st.drop na with
  | .ref b :: r => ∃ q ∈ tbl, zt X.2.1 b = 20 + q.1 ∧ r.length ≤ 4 ∧ (st.take na).length = na ∧ zC V q.2 (.ref b :: (st.take na).reverse) X k n (fun v X' k' n' => K ls (v.toList ++ r) X' k' n') (KX ls)
  | _ => False
theorem k_callVs {V : zV} {Y : zY} {pc pc2 na : Nat} {tbl : List (Nat × zY)} {KX : List (Option Value) → Nat → zX → Nat → Nat → Prop} (h : ∀ q ∈ tbl, zStep V Y pc (oCV V q.2 q.1 na KX) pc2) : zStep V Y pc (oCVs V tbl na KX) pc2 := by
  intro K hK ls st X k n hop
  unfold oCVs at hop
  split at hop
  · next b r heq =>
    obtain ⟨q, hq, h1, h2, h3, h4⟩ := hop
    refine h q hq K hK ls st X k n ?_
    unfold oCV
    rw [heq]
    exact ⟨h1, h2, h3, h4⟩
  · exact hop.elim
/-- a row of one cell is another -/
theorem zRH.setw {E : zE} {X : zX} {H H1 : Heap} {a : Nat} {row : Nat → Int32} {q : zSh} (h : zRH E X H) (hq : X.2.1 a = some q) (z : H1.size = H.size) (oq : ∀ b, b ≠ a → H1[b]? = H[b]?) (ha : zat E a q row (X.2.2.2 a) H1) : zRH E (X.1, X.2.1, (fun b => if b = a then row else X.2.2.1 b), X.2.2.2) H1 := by
  refine ⟨z.trans h.1, fun b r hr => ?_, by rw [z]; exact h.2.2.1, fun b hb => ?_⟩
  · refine ⟨(h.2.1 b r hr).1, (h.2.1 b r hr).2.1, ?_⟩
    by_cases hba : b = a
    · subst hba
      cases Option.some.inj (hq.symm.trans hr)
      show zat E b q (if b = b then row else X.2.2.1 b) _ _
      rw [if_pos rfl]; exact ha
    · show zat E b r (if b = a then row else X.2.2.1 b) _ _
      rw [if_neg hba]
      obtain ⟨h1, h2, h3, h4⟩ := (h.2.1 b r hr).2.2
      refine ⟨fun t => (oq b hba).trans (h1 t), fun t => (oq b hba).trans (h2 t), fun t t2 => (oq b hba).trans (h3 t t2), fun t => ?_⟩
      obtain ⟨r0, g1, g2⟩ := h4 t
      exact ⟨r0, g1, g2.kept (oq b hba)⟩
  · rw [oq b (fun hba => by subst hba; exact absurd hb (Nat.not_lt.mpr (h.2.1 b q hq).1))]
    exact h.2.2.2 b hb
def zcp (S : Nat → Nat → Int32) (a0 a sp dp n : Nat) : Nat → Nat → Int32 := fun b => if b = a then va_cpy (S a0) (S a) sp dp n else S b
def oCopy (t : Nat) (K : zK) : zK := fun ls st X k n => match st with
  | .int m :: .int dp :: .ref a :: .int sp :: .ref a0 :: r => (zt X.2.1 a0 = t ∧ zt X.2.1 a = t) ∧ (¬ sp < 0 ∧ ¬ dp < 0 ∧ ¬ m < 0) ∧ (sp.toNatClampNeg + m.toNatClampNeg ≤ zn X.2.1 a0 ∧ dp.toNatClampNeg + m.toNatClampNeg ≤ zn X.2.1 a) ∧ r.length ≤ 4 ∧ (∀ i, i < m.toNatClampNeg → fits (zty t) (.int (X.2.2.1 a0 (sp.toNatClampNeg + i))) = true) ∧ K ls r (X.1, X.2.1, zcp X.2.2.1 a0 a sp.toNatClampNeg dp.toNatClampNeg m.toNatClampNeg, X.2.2.2) k n
  | _ => False
theorem nn_clamp {z : Int32} (hz : ¬ z < 0) : z.toInt = (z.toNatClampNeg : Int) := by
  have h1 := Int32.not_lt.mp hz
  have h2 : (0 : Int) ≤ z.toInt := by simpa using Int32.le_iff_toInt_le.mp h1
  show z.toInt = ((z.toInt.toNat : Nat) : Int)
  omega
theorem k_copy {V : zV} {Y : zY} {pc t index : Nat} (ht4 : t < 4) (hlk : Cond.methodLink Y.1.cls index arraycopyName ∈ lw_all) (hnat : Cond.native arraycopyName ∈ lw_all) (hstat : Cond.static arraycopyName ∈ lw_all) (hini : Cond.initialized "java/lang/System" ∈ lw_all) (hV : 1 ≤ V.2.2.1) (hd : decode Y.2.1 pc = .ok (.invokestatic index, 3)) : zStep V Y pc (oCopy t) (pc + 3) := by
  intro K hK ls st X k n h p e s m args below meth co H locs lsA hF hR hq hL
  unfold oCopy at h
  split at h
  · next len dp a sp a0 r =>
    obtain ⟨⟨ht0, ht1⟩, ⟨h1, h2, h3⟩, ⟨h4, h5⟩, hr, hfit, h⟩ := h
    have hs0 := zt_some ht0 (by omega)
    have hs1 := zt_some ht1 (by omega)
    have hc0 := (hR.2.1 a0 _ hs0).2.2.1 (by simpa using ht4)
    have hc1 := (hR.2.1 a _ hs1).2.2.1 (by simpa using ht4)
    obtain ⟨hx, hb, hrt, hml, hown, hts, hlk0, hnm, hxt, hRS⟩ := id hF
    have hprim : refKind (zty t) = false := by
      have : t = 0 ∨ t = 1 ∨ t = 2 ∨ t = 3 := by omega
      rcases this with rfl | rfl | rfl | rfl <;> rfl
    obtain ⟨-, k0, hk0, cm0, hkk0⟩ := (hRS.1.2 t _ (ztys_at (by omega))).1 (zn X.2.1 a0) (fun j => .int (X.2.2.1 a0 j))
    obtain ⟨-, k1, hk1, cm1, hkk1⟩ := (hRS.1.2 t _ (ztys_at (by omega))).1 (zn X.2.1 a) (fun j => .int (X.2.2.1 a j))
    intro T hT XT
    obtain ⟨vm', X', step⟩ := XT.arraycopy hx hown (hts _ hlk) (hts _ hnat) (hts _ hstat) (hts _ hini) (src := a0) (dst := a) (srcPos := sp) (destPos := dp) (n := len) (by rw [hT]; exact hc0) (by rw [hT]; exact hc1)
      (fun _ h => by cases h) (fun _ h => by cases h) (fun h => by cases h) (fun h => by cases h) hk0 hk1 hkk0 hkk1 (by simp [hprim]) h1 h2 h3
      (by rw [nn_clamp h1, nn_clamp h3, arrV_size]; omega)
      (by rw [nn_clamp h2, nn_clamp h3, arrV_size]; omega)
      (fun vm₁ _ i hi => by
        have ee : (arrV (V.2.1.2.1 t) (zn X.2.1 a0) (fun j => .int (X.2.2.1 a0 j))).slots.getD (sp.toNatClampNeg + i) .null = .int (X.2.2.1 a0 (sp.toNatClampNeg + i)) := by
          rw [Array.getD_eq_getD_getElem?, arrV_read _ _ (by omega)]
          rfl
        rw [ee]
        exact ⟨hfit i hi, trivial⟩)
      (g := F0 m pc lsA (.int len :: .int dp :: .ref a :: .int sp :: .ref a0 :: r)) rfl (by rw [hml]; exact hL.1) (rest := r) rfl (by rw [hb]; exact hd) hV
      (by
        have hw : nativeFrameWords "java/lang/System" "arraycopy" 5 = 7 := by decide +kernel
        have := z_sum hr
        rw [hw]
        show 2 * 0 + _ + (7 + 11) ≤ 64 * V.2.2.1
        omega)
    have e1 : copied (arrV (V.2.1.2.1 t) (zn X.2.1 a0) (fun j => .int (X.2.2.1 a0 j))) (arrV (V.2.1.2.1 t) (zn X.2.1 a) (fun j => .int (X.2.2.1 a j))) sp dp len = arrV (V.2.1.2.1 t) (zn X.2.1 a) (fun j => .int (va_cpy (X.2.2.1 a0) (X.2.2.1 a) sp.toNatClampNeg dp.toNatClampNeg len.toNatClampNeg j)) := va_copied (fun z => .int z) _ _ _ _ h4
    rw [e1] at X' step
    have hl : a < H.size := zt_lt hR hs1
    have hheap : ((T.setVm vm').setCell a (arrV (V.2.1.2.1 t) (zn X.2.1 a) (fun j => .int (va_cpy (X.2.2.1 a0) (X.2.2.1 a) sp.toNatClampNeg dp.toNatClampNeg len.toNatClampNeg j)))).heap = H.setIfInBounds a (arrV (V.2.1.2.1 t) (zn X.2.1 a) (fun j => .int (va_cpy (X.2.2.1 a0) (X.2.2.1 a) sp.toNatClampNeg dp.toNatClampNeg len.toNatClampNeg j))) := by rw [← hT]; rfl
    have hR1 : zRH V.2.1 (X.1, X.2.1, zcp X.2.2.1 a0 a sp.toNatClampNeg dp.toNatClampNeg len.toNatClampNeg, X.2.2.2) (H.setIfInBounds a (arrV (V.2.1.2.1 t) (zn X.2.1 a) (fun j => .int (va_cpy (X.2.2.1 a0) (X.2.2.1 a) sp.toNatClampNeg dp.toNatClampNeg len.toNatClampNeg j)))) := by
      refine hR.setw hs1 (by simp) (fun b hb => by simp [Array.getElem?_setIfInBounds, Ne.symm hb]) ?_
      refine ⟨fun _ => by simp [Array.getElem?_setIfInBounds, hl], fun t => absurd t (by simp; omega), fun t => absurd t (by simp; omega), fun t => absurd t (by simp; omega)⟩
    have hq1 : ∀ q ∈ locs ++ ((arrV (V.2.1.2.1 t) (zn X.2.1 a0) (fun j => .int (X.2.2.1 a0 j))).stretch sp.toNatClampNeg len.toNatClampNeg).zipIdx.map (fun q => (⟨a, dp.toNatClampNeg + q.2⟩ : Loc)), V.2.1.2.2.1.size ≤ q.base := by
      intro q hqm
      rcases List.mem_append.mp hqm with h9 | h9
      · exact hq q h9
      · obtain ⟨z, -, hz⟩ := List.mem_map.mp h9
        rw [← hz]
        exact (hR.2.1 a _ hs1).1
    obtain ⟨tt, a1, b1⟩ := hK _ _ _ _ _ h p e s m args below meth co _ _ lsA hF hR1 hq1 hL _ hheap X'
    exact ⟨tt, step tt a1, b1⟩
  · exact h.elim
