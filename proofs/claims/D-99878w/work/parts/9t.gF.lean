/-! an array of arrays of ints is made -/
def hMu (h : Nat → Option zSh) (z N M : Nat) : Nat → Option zSh := fun b => if b = z then some (10, N, fun j => some (z + 1 + j)) else if z < b ∧ b ≤ z + N then some (0, M, fun _ => none) else h b
def SMu (S : Nat → Nat → Int32) (z N : Nat) : Nat → Nat → Int32 := fun b => if z ≤ b ∧ b ≤ z + N then fun _ => 0 else S b
/-- the array class over int arrays is there -/
def aoZ (E : zE) : Prop := zP0 E (fun U _ => ∀ B : Array Value, (Cond.arrayOver (.array .int)).before B U = true)
def oMulti (V : zV) (K : zK) : zK := fun ls st X k n => match st with
  | .int j :: .int i :: r => aoZ V.2.1 ∧ (¬ i < 0 ∧ ¬ j < 0) ∧ (i.toNatClampNeg ≤ 1000 ∧ j.toNatClampNeg ≤ 1000) ∧ (k + (1 + i.toNatClampNeg) ≤ V.2.2.2.1 ∧ n + (i.toNatClampNeg + i.toNatClampNeg * j.toNatClampNeg) ≤ V.2.2.2.2.1) ∧ K ls (.ref X.1 :: r) (X.1 + 1 + i.toNatClampNeg, hMu X.2.1 X.1 i.toNatClampNeg j.toNatClampNeg, SMu X.2.2.1 X.1 i.toNatClampNeg, X.2.2.2) (k + 1 + i.toNatClampNeg) (n + i.toNatClampNeg + i.toNatClampNeg * j.toNatClampNeg)
  | _ => False
section GF
variable {V : zV} {Y : zY} {pc : Nat}
theorem zRH.multi {E : zE} {X : zX} {H H1 : Heap} {N M : Nat} (h : zRH E X H) (z : H1.size = H.size + 1 + N) (oq : ∀ b, b < H.size → H1[b]? = H[b]?) (h0 : H1[H.size]? = some (arrV (E.2.1 10) N (fun j => .ref (H.size + 1 + j)))) (h1 : ∀ j, j < N → H1[H.size + 1 + j]? = some (arrV (E.2.1 0) M (fun _ => .int 0))) : zRH E (X.1 + 1 + N, hMu X.2.1 X.1 N M, SMu X.2.2.1 X.1 N, X.2.2.2) H1 := by
  have hs := h.1
  have hE := h.2.2.1
  refine ⟨by rw [z, hs], fun b r hr => ?_, by rw [z]; omega, fun b hb => ?_⟩
  · have hr : hMu X.2.1 X.1 N M b = some r := hr
    show E.2.2.1.size ≤ b ∧ b < X.1 + 1 + N ∧ zat E b r (SMu X.2.2.1 X.1 N b) (X.2.2.2 b) H1
    unfold hMu at hr
    unfold SMu
    by_cases e : b = X.1
    · rw [if_pos e] at hr
      cases hr
      refine ⟨by omega, by omega, fun t => absurd t (by simp), fun t => absurd t (by simp), fun _ _ => ?_, fun t => absurd t (by simp)⟩
      rw [e, ← hs]; exact h0
    rw [if_neg e] at hr
    by_cases e2 : X.1 < b ∧ b ≤ X.1 + N
    · rw [if_pos e2] at hr
      cases hr
      refine ⟨by omega, by omega, fun _ => ?_, fun t => absurd t (by simp), fun t => absurd t (by simp), fun t => absurd t (by simp)⟩
      rw [if_pos (by omega)]
      have := h1 (b - (X.1 + 1)) (by omega)
      rw [show H.size + 1 + (b - (X.1 + 1)) = b by omega] at this
      exact this
    rw [if_neg e2] at hr
    obtain ⟨g1, g2, g3, g4, g5, g6⟩ := h.2.1 b r hr
    rw [if_neg (by omega)]
    have ob := oq b (by omega)
    refine ⟨g1, by omega, fun t => ob.trans (g3 t), fun t => ob.trans (g4 t), fun t t2 => ob.trans (g5 t t2), fun t => ?_⟩
    obtain ⟨r0, w1, w2⟩ := g6 t
    exact ⟨r0, w1, w2.kept ob⟩
  · rw [oq b (by omega)]; exact h.2.2.2 b hb
theorem outer_mh (c : ClassId) (N h0 : Nat) : ∀ i, ∃ sl, Jvm.Free.Multi.outerC c N h0 i = { cls := c, slots := sl, vm := .none }
  | 0 => ⟨_, rfl⟩
  | i + 1 => by
    obtain ⟨sl, e⟩ := outer_mh c N h0 i
    refine ⟨(Jvm.Free.Multi.outerC c N h0 (i + 1)).slots, ?_⟩
    show (Jvm.Free.Multi.outerC c N h0 i).setSlot i _ = { cls := c, slots := ((Jvm.Free.Multi.outerC c N h0 i).setSlot i _).slots, vm := .none }
    rw [e]; rfl
theorem outer_arr (c : ClassId) (N h0 : Nat) : Jvm.Free.Multi.outerC c N h0 N = arrV c N (fun j => .ref (h0 + 1 + j)) := by
  obtain ⟨a, b, d⟩ := Jvm.Free.Multi.outerC_facts c N h0 N
  have hs : (Jvm.Free.Multi.outerC c N h0 N).slots = (arrV c N (fun j => .ref (h0 + 1 + j))).slots := by
    refine Array.ext_getElem? (fun j => ?_)
    by_cases hj : j < N
    · rw [Jvm.Free.Multi.outerC_slot c N h0 N j hj, if_pos hj]
      simp [arrV, hj]
    · rw [Array.getElem?_eq_none (by omega), Array.getElem?_eq_none (by simp [arrV]; omega)]
  obtain ⟨sl, e⟩ := outer_mh c N h0 N
  rw [e] at hs ⊢
  have hs : sl = (arrV c N (fun j => .ref (h0 + 1 + j))).slots := hs
  rw [hs]; rfl
theorem k_multi {index : Nat} (hcl : Cond.classLink Y.1.cls index "[[I" ∈ lw_all) (har : Cond.arrayClass .int ∈ lw_all) (hd : decode Y.2.1 pc = .ok (.multianewarray index 2, 4)) : zStep V Y pc (oMulti V) (pc + 4) := by
  intro K hK ls st X k n h p e s m args below meth co H locs lsA hF hR hq hL
  unfold oMulti at h
  split at h
  · next j i r =>
    obtain ⟨hO, ⟨h0, h1⟩, ⟨hi, hj⟩, ⟨hk, hn⟩, h⟩ := h
    obtain ⟨hx, hb, hrt, hml, hown, hts, hlk0, hnm, hxt, hRS⟩ := id hF
    have hA0 : s.vm.findClass "[I" = some (V.2.1.2.1 0) := (hRS.1.2 0 _ (ztys_at (by omega))).2
    have hA1 : s.vm.findClass "[[I" = some (V.2.1.2.1 10) := (hRS.1.2 10 _ (ztys_at (by omega))).2
    have hov : (Cond.arrayOver (.array .int)).before args s = true := hO s hRS.2.2.1 args
    intro T hT X9
    obtain ⟨vm₁, cA, comp, hW, hfA, hfC, -, -, X1, step⟩ := X9.multianewarray2F hx hown (ty := .int) (hts _ hcl) hov (hts _ har) (g := F0 m pc lsA (.int j :: .int i :: r)) rfl (by rw [hb]; exact hd) rfl h0 h1 (by omega) (by show j.toNatClampNeg * 4 ≤ 536870912; omega) (by omega) rfl rfl hk hn
    have eA : cA = V.2.1.2.1 10 := Option.some.inj (hfA.symm.trans hA1)
    have eC : comp = V.2.1.2.1 0 := Option.some.inj (hfC.symm.trans hA0)
    subst eA eC
    have hH : (T.setVm vm₁).heap = H := hT
    have ff := Jvm.Free.Multi.fill_facts (T.setVm vm₁) (V.2.1.2.1 10) (V.2.1.2.1 0) i.toNatClampNeg j.toNatClampNeg (defaultValue .int) i.toNatClampNeg
    have fo : ∀ b, b < (T.setVm vm₁).heap.size → _ := fun b hb => Jvm.Free.Multi.fill_old (T.setVm vm₁) (V.2.1.2.1 10) (V.2.1.2.1 0) i.toNatClampNeg j.toNatClampNeg (defaultValue .int) (a := b) hb i.toNatClampNeg
    have fi := Jvm.Free.Multi.fill_inner (T.setVm vm₁) (V.2.1.2.1 10) (V.2.1.2.1 0) i.toNatClampNeg j.toNatClampNeg (defaultValue .int) i.toNatClampNeg
    rw [outer_arr] at ff
    rw [hH] at ff fo fi
    have eT : T.heap.size = X.1 := by rw [hT]; exact hR.1
    rw [eT] at step
    have hR' := hR.multi ff.1 fo ff.2.1 (fun q hq => (fi q hq).trans (by rw [show Jvm.Free.Multi.innerC (V.2.1.2.1 0) j.toNatClampNeg (defaultValue .int) = arrV (V.2.1.2.1 0) j.toNatClampNeg (fun _ => .int 0) from arrV_new _ _ _]))
    obtain ⟨t, a1, b1⟩ := hK _ _ _ _ _ h p e s m args below meth co _ locs lsA hF hR' hq hL _ rfl X1
    exact ⟨t, step t a1, b1⟩
  · exact h.elim
end GF
