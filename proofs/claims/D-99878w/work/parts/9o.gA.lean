/-! the component: a text that was read is a text of the town; the handler; read -/
section GA0
variable {z : Nat} {h : Nat → Option zSh} {S : Nat → Nat → Int32} {c ta dE : Nat} {eA : Nat → Nat} {B : Nat → Nat → Nat} {x : zTx}
theorem nI_cl {n : Nat} (h : n < 1000) : (nI n).toNatClampNeg = n := by
  have := nI_toInt (n := n) (by omega)
  unfold Int32.toNatClampNeg
  omega
theorem txP.tx (hp : txP z h S ta dE eA B x) (hO : xOK x) (hct : c + 606 ≤ ta) : isTx h S (okR c z) 400 ta (tZ x) (rZ x) ((ta + 1, ta + 2, ta + 3, ta + 4, ta + 5), (B 0, B 1, B 2, B 3)) := by
  obtain ⟨⟨a1, a2, a3, a4, a5⟩, b, ⟨d1, d2, d3, d4, d5⟩, ⟨e1, e2, e3⟩, f, f2, f3⟩ := id hp
  obtain ⟨o1, o2, o3, o4, o5, o6, o7, o8⟩ := hO
  have ok : ∀ a, ta ≤ a → a < z → okR c z a := fun a h1 h2 => ⟨fun q => by unfold Rg at q; omega, h2⟩
  have ok' : ∀ a, txd ta z eA x a → okR c z a := fun a q => ok a (by have := q.1; omega) q.2.1
  have ls : ∀ k, k < 4 → isLo h S (okR c z) (ta + 1 + k) (xn x k) (B k) := fun k hk => by
    obtain ⟨b1, b2, b3, b4, b5⟩ := b k hk
    refine ⟨ok _ (by omega) (by omega), b1, b2, by omega, fun h0 => ?_⟩
    obtain ⟨c1, c2, c3, c4⟩ := b5 (by omega)
    have := f2 k hk (by omega)
    exact ⟨eA k, ok _ (by omega) (by omega), c1, c2, by omega, by omega, c4⟩
  refine ⟨⟨ok _ (by omega) (by omega), a1⟩, ⟨a2 0 (by omega), a2 1 (by omega), a2 2 (by omega), a2 3 (by omega), a3⟩, ⟨ls 0 (by omega), ls 1 (by omega), ls 2 (by omega), ls 3 (by omega)⟩, ⟨ok (ta + 5) (by omega) (by omega), a4, a5⟩, fun s hs => ?_, fun y hy => ?_, fun v hv => ?_, fun k hk => ?_, ⟨fun h0 => ?_, e2, e3⟩, o8⟩
  · have hs : s < (xS x).length := hs
    obtain ⟨g1, g2, g3, g4, g5⟩ := d2 s hs
    obtain ⟨p, r, n, w1, w2, w3, w4, w5, w6⟩ := o1 s hs
    have p7 := o8.1
    have t1 : tone (tZ x) s = p := by show ((xS x).getD s s0).1.toNatClampNeg = p; rw [w1]; exact nI_cl (by omega)
    have t2 : toth (tZ x) s = r := by show ((xS x).getD s s0).2.1.toNatClampNeg = r; rw [w1]; exact nI_cl (by omega)
    rw [t1, t2]
    rw [w1] at g3 g4
    exact ⟨ok' _ g1, g2, g3, g4, g5, w2, w3, w4⟩
  · have hy : y < (xY x).length := hy
    obtain ⟨g1, g2, -, g4, g5, g6⟩ := d3 y hy
    exact ⟨ok' _ g1, g2, g4, g5, by rw [rZ, if_pos hy]; exact g6⟩
  · have hv : v < (xW x).length := hv
    obtain ⟨g1, g2, -, g4⟩ := d4 v hv
    have y6 := o8.2.2.1
    exact ⟨ok' _ g1, g2, by rw [rZ, if_neg (by omega), if_pos (by omega), show 36 + v - 36 = v by omega]; exact g4⟩
  · rcases d5 k hk with ⟨g1, g2⟩ | ⟨a, g1, g2⟩
    · exact Or.inl ⟨g1, g2⟩
    · exact Or.inr ⟨a, g1, g2.fr (fun _ _ => rfl) (fun _ _ => rfl) ok'⟩
  · have h0 : (xC x).length ≠ 0 := h0
    have y6 := o8.2.2.1
    have w5 := o8.2.2.2
    rw [rZ, if_neg (by omega), if_neg (by omega), if_pos rfl, if_neg h0]; exact e1
theorem rZ_0 {j : Nat} (hO : xOK x) (h6 : 6 ≤ j) (hj : ¬ (36 ≤ j ∧ j < 36 + (xW x).length)) (h46 : j ≠ 46) : rZ x j = nI 0 := by
  have y6 := hO.2.2.2.2.2.2.2.2.2.1
  rw [rZ, if_neg (by omega), if_neg hj, if_neg h46]
theorem rZ_r0 (hO : xOK x) : r0I (tZ x) (rZ x) := by
  have y6 := hO.2.2.2.2.2.2.2.2.2.1
  have w5 := hO.2.2.2.2.2.2.2.2.2.2
  refine ⟨fun j h1 h2 => ?_, fun j h1 h2 => ?_, ?_, fun j hj => ?_⟩
  · have h1 : (xY x).length ≤ j := h1
    rw [rZ, if_neg (by omega), if_neg (by omega), if_neg (by omega)]
  · have h1 : 36 + (xW x).length ≤ j := h1
    exact rZ_0 hO (by omega) (by omega) (by omega)
  · exact rZ_0 hO (by omega) (by omega) (by omega)
  · exact rZ_0 hO (by omega) (by omega) (by omega)
theorem rZ_I (hO : xOK x) : rI (tZ x) (rZ x) := by
  obtain ⟨o1, o2, o3, o4, o5, o6, o7, o8, o9, y6, w5⟩ := id hO
  refine ⟨fun y hy => ⟨0, rZ_0 hO (by omega) (by omega) (by omega), by omega, fun _ => rfl⟩, fun v hv => ?_, fun y hy => ?_, fun y hy => ?_, ?_, ⟨fun h0 => ?_, fun h0 => ?_⟩, ⟨0, rZ_0 hO (by omega) (by omega) (by omega), by omega⟩, fun j hj => rZ_0 hO (by omega) (by omega) (by omega)⟩
  · by_cases hw : v < (xW x).length
    · exact ⟨((xW x).getD v w0).2, by rw [rZ, if_neg (by omega), if_pos (by omega), show 36 + v - 36 = v by omega], o3 v hw⟩
    · exact ⟨0, rZ_0 hO (by omega) (by omega) (by omega), by omega⟩
  · have hy : y < (xY x).length := hy
    exact Or.inl (rZ_0 hO (by omega) (by omega) (by omega))
  · have hy : y < (xY x).length := hy
    exact Or.inl (rZ_0 hO (by omega) (by omega) (by omega))
  · refine ⟨fun y => ((xY x).getD y y0).2.2.2.toNatClampNeg, fun y hy => ?_⟩
    have hy : y < (xY x).length := hy
    obtain ⟨p, w1, w2, -⟩ := o2 y hy
    show rZ x y = nI (((xY x).getD y y0).2.2.2.toNatClampNeg) ∧ ((xY x).getD y y0).2.2.2.toNatClampNeg < (xC x).length
    rw [rZ, if_pos hy, w1, nI_cl (by omega)]
    exact ⟨rfl, w2⟩
  · have h0 : (xC x).length ≠ 0 := h0
    obtain ⟨p, w1, w2⟩ := o4
    refine ⟨p, by show p < (xC x).length; omega, ?_⟩
    rw [rZ, if_neg (by omega), if_neg (by omega), if_pos rfl, if_neg h0]; exact w1
  · have h0 : (xC x).length = 0 := h0
    rw [rZ, if_neg (by omega), if_neg (by omega), if_pos rfl, if_pos h0]
theorem tZ_I (hO : xOK x) : tI (tZ x) := by
  refine ⟨fun s hs => ?_, hO.2.2.2.2.2.2.1⟩
  obtain ⟨p, r, n, w1, w2, w3, w4, w5, w6⟩ := hO.1 s hs
  exact ⟨n, by show nI ((xS x).getD s s0).2.2 = nI n; rw [w1], w5, w6⟩
end GA0
section GA1
variable {V : zV}
theorem zTh_read {pc : Nat} (h1 : 7 ≤ pc) (h2 : pc < 59) : zTh V YX0_read pc (fun ls q X k n => zW V YX0_read 62 ls [.ref q] X k n) := by
  intro ls q X k n h p e s m args below meth c H locs lsA rest ce hF hR hq hL hce hcv hcl
  have k0 : s.vm.findClass "BlushLamps" = some m.cls := hF.2.2.2.2.1
  have k1 : (Cond.classLink "BlushLamps" 14 "BlushLamps$Fault").before args s = true := hF.2.2.2.2.2.1 _ q166
  have k2 : (Cond.castable "BlushLamps$Fault" "BlushLamps$Fault").before args s = true := va_Nw.use (A := args) rfl (hF.2.2.2.2.2.2.2.2.2.2.1 _ (List.mem_filter.mpr ⟨q168, rfl⟩))
  have k3 : c.exceptionTable.toList = [] ++ (⟨7, 59, 62, 14⟩ : ExceptionTableEntry) :: [] := hF.2.2.2.2.2.2.2.2.1
  have k4 : covers (⟨7, 59, 62, 14⟩ : ExceptionTableEntry) pc = true := by unfold covers; simp [h1, h2]
  have k5 : s.vm.findClass "BlushLamps$Fault" = some ce.cls := hcl
  have k6 := h p e s m args below meth c H locs lsA hF hR hq hL
  exact zx_catch (own := "BlushLamps") (name := "BlushLamps$Fault") (E := "BlushLamps$Fault") (ls := lsA) (rest := rest) k0 [] ⟨7, 59, 62, 14⟩ [] k3 (fun z hz => absurd hz List.not_mem_nil) k4 (fun e => Nat.noConfusion e) k1 k2 hce hcv k5 k6
end GA1
