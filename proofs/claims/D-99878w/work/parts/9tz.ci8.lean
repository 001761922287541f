/-! a constructor is called with up to eight slots of values below -/
section GI
variable {V : zV} {Y : zY} {pc : Nat}
def oCI8 (V : zV) (Y' : zY) (na : Nat) (KX : List (Option Value) → Nat → zX → Nat → Nat → Prop) (K : zK) : zK := fun ls st X k n => match st.drop na with
  | .ref b :: r => (r.map fun v => v.category).sum ≤ 8 ∧ (st.take na).length = na ∧ zC V Y' (.ref b :: (st.take na).reverse) X k n (fun v X' k' n' => K ls (v.toList ++ r) X' k' n') (KX ls)
  | _ => False
theorem k_callIN8 {Y' : zY} {na index : Nat} {host : String} {KX : List (Option Value) → Nat → zX → Nat → Nat → Prop} (hT : zTh V Y pc KX) (hm : zmI Y' na) (hlk : Cond.methodLinkNest Y.1.cls index Y'.1 host ∈ lw_tbl) (hd : decode Y.2.1 pc = .ok (.invokespecial index, 3)) : zStep V Y pc (oCI8 V Y' na KX) (pc + 3) := by
  intro K hK ls st X k n h p e s m args below meth co H locs lsA hF hR hq hL
  unfold oCI8 at h
  split at h
  · next b r hdr =>
    obtain ⟨hr, hta, d0, mc0, ms0, Q0, QX0, hM, hdd, hk, hn, h1, h2⟩ := h
    obtain ⟨m1, m2, m3, m5, ⟨m8, m9⟩, m6, m7⟩ := hm
    unfold zM at hM
    rw [zwsN m7] at hM
    rw [m9] at hM m3
    obtain ⟨hx, hb, hrt, hml, hown, hts, hlk0, hnm, hxt, hRS⟩ := id hF
    have hst : st = st.take na ++ .ref b :: r := by rw [← hdr, List.take_append_drop]
    exact z_run (zx_runIN (As := (st.take na).reverse) (rest := r) ⟨hx, hb, hml, hown, hts⟩ hM ⟨va_cnB na hts (lw_meth m3) rfl rfl rfl (hRS.2.1 _ (List.mem_filter.mpr ⟨hlk, rfl⟩)) (hts _ m2) m5 ⟨hdd, by show 8 + (Y'.2.2.1 + 11) + 64 * d0 ≤ 64 * V.2.2.1; omega⟩, m8, hts _ m1⟩
      ⟨zblind, fun U hU hW => ⟨rfl, hRS.warm hW, by rw [hU]; exact hR⟩⟩ rfl (by rw [List.length_reverse]; exact hta) hL.1 (by rw [List.reverse_reverse]; exact hst) (lv_room hr) hd ⟨hk, hn⟩) hF hq hL hK hT h1 h2
  · exact h.elim
end GI
