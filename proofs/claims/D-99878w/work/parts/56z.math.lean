/-! z-layer: Math.max, min, abs -/
def maxF (x y : Int32) : Int32 := if x < y then y else x
def minF (x y : Int32) : Int32 := if y < x then y else x
def absG (x : Int32) : Int32 := if 0 ≤ x then x else 0 - x
def oM2 (V : zV) (f : Int32 → Int32 → Int32) (K : zK) : zK := fun ls st X k n => match st with
  | .int y :: .int x :: r => r.length ≤ 4 ∧ k ≤ V.2.2.2.1 ∧ n ≤ V.2.2.2.2.1 ∧ K ls (.int (f x y) :: r) X k n
  | _ => False
def oM1 (V : zV) (f : Int32 → Int32) (K : zK) : zK := fun ls st X k n => match st with
  | .int x :: r => r.length ≤ 4 ∧ k ≤ V.2.2.2.1 ∧ n ≤ V.2.2.2.2.1 ∧ K ls (.int (f x) :: r) X k n
  | _ => False
theorem qmmax : Cond.code Lib.Math.max.name Lib.Math.max.code 2 (some .int) ∈ lw_all := q889
theorem qmmin : Cond.code Lib.Math.min.name Lib.Math.min.code 2 (some .int) ∈ lw_all := q907
theorem qmabs : Cond.code Lib.Math.abs.name Lib.Math.abs.code 1 (some .int) ∈ lw_all := q1471
theorem k_mmax {V : zV} {Y : zY} {pc index : Nat} (hlk : Cond.methodLink Y.1.cls index Lib.Math.max.name ∈ lw_all) (hV : 1 ≤ V.2.2.1) (hd : decode Y.2.1 pc = .ok (.invokestatic index, 3)) : zStep V Y pc (oM2 V maxF) (pc + 3) := by
  intro K hK ls st X k n h p e s m args below meth co H locs lsA hF hR hq hL
  unfold oM2 at h
  split at h
  · next y x r =>
    obtain ⟨hr, hk, hn, h⟩ := h
    obtain ⟨hx, hb, hrt, hml, hown, hts, hlk0, hnm, hxt, hRS⟩ := id hF
    exact va_mmax hx hb (by rw [hml]; exact hL.1.symm) hown (hts _ hlk) (hts _ q888) (hts _ q151) (hts _ qmmax) hV (by show _ + 13 ≤ 64 * V.2.2.1; have := z_sum hr; omega) hk hn hd (hK _ _ _ _ _ h p e s m args below meth co H locs lsA hF hR hq hL)
  · exact h.elim
theorem k_mmin {V : zV} {Y : zY} {pc index : Nat} (hlk : Cond.methodLink Y.1.cls index Lib.Math.min.name ∈ lw_all) (hV : 1 ≤ V.2.2.1) (hd : decode Y.2.1 pc = .ok (.invokestatic index, 3)) : zStep V Y pc (oM2 V minF) (pc + 3) := by
  intro K hK ls st X k n h p e s m args below meth co H locs lsA hF hR hq hL
  unfold oM2 at h
  split at h
  · next y x r =>
    obtain ⟨hr, hk, hn, h⟩ := h
    obtain ⟨hx, hb, hrt, hml, hown, hts, hlk0, hnm, hxt, hRS⟩ := id hF
    exact va_mmin hx hb (by rw [hml]; exact hL.1.symm) hown (hts _ hlk) (hts _ q906) (hts _ q151) (hts _ qmmin) hV (by show _ + 13 ≤ 64 * V.2.2.1; have := z_sum hr; omega) hk hn hd (hK _ _ _ _ _ h p e s m args below meth co H locs lsA hF hR hq hL)
  · exact h.elim
theorem k_mabs {V : zV} {Y : zY} {pc index : Nat} (hlk : Cond.methodLink Y.1.cls index Lib.Math.abs.name ∈ lw_all) (hV : 1 ≤ V.2.2.1) (hd : decode Y.2.1 pc = .ok (.invokestatic index, 3)) : zStep V Y pc (oM1 V absG) (pc + 3) := by
  intro K hK ls st X k n h p e s m args below meth co H locs lsA hF hR hq hL
  unfold oM1 at h
  split at h
  · next x r =>
    obtain ⟨hr, hk, hn, h⟩ := h
    obtain ⟨hx, hb, hrt, hml, hown, hts, hlk0, hnm, hxt, hRS⟩ := id hF
    exact va_mabs hx hb (by rw [hml]; exact hL.1.symm) hown (hts _ hlk) (hts _ q1470) (hts _ q151) (hts _ qmabs) hV (by show _ + 13 ≤ 64 * V.2.2.1; have := z_sum hr; omega) hk hn hd (hK _ _ _ _ _ h p e s m args below meth co H locs lsA hF hR hq hL)
  · exact h.elim
