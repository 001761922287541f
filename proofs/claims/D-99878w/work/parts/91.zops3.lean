/-! z-layer: what stands from the start (statics, text constants), instanceof -/
def zA (E : zE) : Nat → Prop := fun q => E.2.2.1.size ≤ q
/-- it holds at the start, of the heap at the start, and so all through -/
def zP0 (E : zE) (P : State → Heap → Prop) : Prop := ∀ U, E.2.2.2 U → P U E.2.2.1
theorem zRH.old {E : zE} {X : zX} {H : Heap} (h : zRH E X H) : ∀ a : Nat, a < E.2.2.1.size → ¬ zA E a → H[a]? = E.2.2.1[a]? := fun a ha _ => h.2.2.2 a ha
section ZO
variable {V : zV} {Y : zY} {pc : Nat}
def zsR (E : zE) (own : String) (index : Nat) (tx : String) (a : Nat) : Prop := zP0 E (fun U _ => vk_R own index tx a U)
def oLdcS (V : zV) (a : Nat) (own : String) (index : Nat) (tx : String) (K : zK) : zK := fun ls st X k n => zsR V.2.1 own index tx a ∧ K ls (.ref a :: st) X k n
theorem k_ldcS {own tx : String} {index a : Nat} (ho : Y.1.cls = own) (hd : decode Y.2.1 pc = .ok (.ldc index, 2)) : zStep V Y pc (oLdcS V a own index tx) (pc + 2) := by
  intro K hK ls st X k n h p e s m args below meth co H locs lsA hF hR hq hL
  obtain ⟨hZ, h⟩ := h
  subst ho
  obtain ⟨hx, hb, hrt, hml, hown, hts, hlk0, hnm, hxt, hRS⟩ := id hF
  exact va_ldcS hx hb hown (hZ s hRS.2.2.1) hd (hK _ _ _ _ _ h p e s m args below meth co H locs lsA hF hR hq hL)
def zsZ (E : zE) (C f d : String) (v : Value) : Prop := zP0 E (va_Z C f d v (zA E))
def oGetS (V : zV) (v : Value) (C f d : String) (K : zK) : zK := fun ls st X k n => zsZ V.2.1 C f d v ∧ K ls (v :: st) X k n
theorem k_gets {own C fn d : String} {index : Nat} {v : Value} (ho : Y.1.cls = own) (hlink : Cond.fieldLink own index C fn d ∈ lw_all) (hd : decode Y.2.1 pc = .ok (.getstatic index, 3)) : zStep V Y pc (oGetS V v C fn d) (pc + 3) := by
  intro K hK ls st X k n h p e s m args below meth co H locs lsA hF hR hq hL
  obtain ⟨hZ, h⟩ := h
  subst ho
  obtain ⟨hx, hb, hrt, hml, hown, hts, hlk0, hnm, hxt, hRS⟩ := id hF
  obtain ⟨cf, kf, fi, f, a, cell, h1, h2, h3, h4, h5, h6, h7, h8⟩ := (hZ s hRS.2.2.1).kept hR.old
  exact W.gets hx hb hown (hts _ hlink) h1 h2 h3 h4 h5 (fun e => by rw [e] at h6; cases h6) h7 rfl hd (hK _ _ _ _ _ h p e s m args below meth co H locs lsA hF hR hq hL)
def zsO (E : zE) (C f d : String) (v : Value) (b : Nat) : Prop := zP0 E (va_OF C f d v b (zA E))
def oGetO (V : zV) (v : Value) (C f d : String) (K : zK) : zK := fun ls st X k n => match st with
  | .ref b :: r => zsO V.2.1 C f d v b ∧ K ls (v :: r) X k n
  | _ => False
theorem k_getO {own C fn d : String} {index : Nat} {v : Value} (ho : Y.1.cls = own) (hlink : Cond.fieldLink own index C fn d ∈ lw_all) (hd : decode Y.2.1 pc = .ok (.getfield index, 3)) : zStep V Y pc (oGetO V v C fn d) (pc + 3) := by
  intro K hK ls st X k n h p e s m args below meth co H locs lsA hF hR hq hL
  unfold oGetO at h
  split at h
  · obtain ⟨hZ, h⟩ := h
    subst ho
    obtain ⟨hx, hb, hrt, hml, hown, hts, hlk0, hnm, hxt, hRS⟩ := id hF
    obtain ⟨cf, k', fi, f, cell, h1, h2, h3, h4, h5, h6⟩ := (hZ s hRS.2.2.1).kept hR.old
    exact W.getf hx hb hown (hts _ hlink) h1 h2 h3 h4 (v := v) h5 rfl rfl hd (hK _ _ _ _ _ h p e s m args below meth co H locs lsA hF hR hq hL)
  · exact h.elim
/-- a row that stood at the start -/
def zsT (E : zE) (ty : FieldType) (b N : Nat) (f : Nat → Value) : Prop := zP0 E (va_T ty b N f (zA E))
def zsL (E : zE) (h : Nat → Option zSh) (t b N : Nat) : Prop := (∃ f, zsT E (zty t) b N f) ∨ (zt h b = t ∧ zn h b = N)
/-- a length: of a new row of kind t, or of a row that stood at the start -/
def oLenO (V : zV) (N t : Nat) (K : zK) : zK := fun ls st X k n => match st with
  | .ref b :: r => zsL V.2.1 X.2.1 t b N ∧ K ls (.int (nI N) :: r) X k n
  | _ => False
theorem k_alenO {t N : Nat} (h11 : t < 11) (hd : decode Y.2.1 pc = .ok (.arraylength, 1)) : zStep V Y pc (oLenO V N t) (pc + 1) := by
  intro K hK ls st X k n h
  unfold oLenO at h
  split at h
  · next b r =>
    obtain ⟨h0, h⟩ := h
    rcases h0 with ⟨f, hZ⟩ | ⟨ht, e⟩
    · intro p e s m args below meth co H locs lsA hF hR hq hL
      obtain ⟨hx, hb, hrt, hml, hown, hts, hlk0, hnm, hxt, hRS⟩ := id hF
      obtain ⟨cell, h1, h2, h3, h4, h5, h6, h7⟩ := (hZ s hRS.2.2.1).kept hR.old
      exact W.alen (n := nI N) hx hb h1 h2 h5 rfl rfl hd (hK _ _ _ _ _ h p e s m args below meth co H locs lsA hF hR hq hL)
    · subst e
      exact k_alen h11 hd K hK ls (.ref b :: r) X k n ⟨ht, h⟩
  · exact h.elim
def oBaldO (V : zV) (N : Nat) (f : Nat → Int32) (K : zK) : zK := fun ls st X k n => match st with
  | .int i :: .ref b :: r => zsT V.2.1 .byte b N (fun j => .int (f j)) ∧ vp_in i N ∧ K ls (.int (f i.toNatClampNeg) :: r) X k n
  | _ => False
theorem k_baloadO {N : Nat} {f : Nat → Int32} (hd : decode Y.2.1 pc = .ok (.baload, 1)) : zStep V Y pc (oBaldO V N f) (pc + 1) := by
  intro K hK ls st X k n h p e s m args below meth co H locs lsA hF hR hq hL
  unfold oBaldO at h
  split at h
  · next i b r =>
    obtain ⟨hZ, hin, h⟩ := h
    obtain ⟨hx, hb, hrt, hml, hown, hts, hlk0, hnm, hxt, hRS⟩ := id hF
    obtain ⟨cell, h1, h2, h3, h4, h5, h6, h7⟩ := (hZ s hRS.2.2.1).kept hR.old
    have hlt : i.toNatClampNeg < N := Nat.not_le.mp fun q => hin (Or.inr q)
    have hin' : ¬ (i < 0 ∨ cell.slots.size ≤ i.toNatClampNeg) := by
      intro q
      rcases q with q | q
      · exact hin (Or.inl q)
      · omega
    exact W.bald (v := .int (f i.toNatClampNeg)) hx hb h1 h2 h3 hin' (by rw [h6 _ hlt]) rfl rfl hd (hK _ _ _ _ _ h p e s m args below meth co H locs lsA hF hR hq hL)
  · exact h.elim
def zsC (E : zE) (C : String) (b : Nat) : Prop := zP0 E (va_O C b (zA E))
/-- a call, the receiver stood at the start -/
def oCVo (V : zV) (Y' : zY) (C : String) (na : Nat) (KX : List (Option Value) → Nat → zX → Nat → Nat → Prop) (K : zK) : zK := fun ls st X k n => match st.drop na with
  | .ref b :: r => zsC V.2.1 C b ∧ r.length ≤ 4 ∧ (st.take na).length = na ∧ zC V Y' (.ref b :: (st.take na).reverse) X k n (fun v X' k' n' => K ls (v.toList ++ r) X' k' n') (KX ls)
  | _ => False
theorem k_callVo {Y' : zY} {na index : Nat} {C : String} {KX : List (Option Value) → Nat → zX → Nat → Nat → Prop} (hT : zTh V Y pc KX) (hm : zmV Y' C na) (hlk : Cond.methodLink Y.1.cls index Y'.1 ∈ lw_all) (hd : decode Y.2.1 pc = .ok (.invokevirtual index, 3)) : zStep V Y pc (oCVo V Y' C na KX) (pc + 3) := by
  intro K hK ls st X k n h p e s m args below meth co H locs lsA hF hR hq hL
  unfold oCVo at h
  split at h
  · next b r hdr =>
    obtain ⟨ht, hr, hta, d0, mc0, ms0, Q0, QX0, hM, hdd, hk, hn, h1, h2⟩ := h
    obtain ⟨m1, m2, m3, m4, m5, m6, m7⟩ := hm
    unfold zM at hM
    rw [zwsN m7] at hM
    obtain ⟨hx, hb, hrt, hml, hown, hts, hlk0, hnm, hxt, hRS⟩ := id hF
    obtain ⟨cell, c1, c2, c3, c4⟩ := (ht s hRS.2.2.1).kept hR.old
    have hst : st = st.take na ++ .ref b :: r := by rw [← hdr, List.take_append_drop]
    exact z_run (zx_runV (As := (st.take na).reverse) (rest := r) ⟨hx, hb, hml, hown, hts⟩ hM (cwV na hts (lw_V hlk m1 m2 m3 m4) rfl rfl rfl m5 ⟨hdd, by show 8 + (Y'.2.2.1 + 11) + 64 * d0 ≤ 64 * V.2.2.1; omega⟩)
      ⟨zblind, ⟨cell, c1, c2, c3⟩, fun U hU hW => ⟨rfl, hRS.warm hW, by rw [hU]; exact hR⟩⟩ rfl (by rw [List.length_reverse]; exact hta) hL.1 (by rw [List.reverse_reverse]; exact hst) (lv_room (z_sum hr)) hd ⟨hk, hn⟩) hF hq hL hK hT h1 h2
  · exact h.elim
/-- something that stood at the start is put into a row of its class -/
def oAst9o (V : zV) (t : Nat) (C : String) (K : zK) : zK := fun ls st X k n => match st with
  | .ref v :: .int i :: .ref a :: r => zt X.2.1 a = t ∧ vp_in i (zn X.2.1 a) ∧ zsC V.2.1 C v ∧ K ls r (X.1, zur X.2.1 a i.toNatClampNeg (some v), X.2.2.1, X.2.2.2) k n
  | _ => False
theorem k_aastoreO {t : Nat} {C : String} (h5 : zty t = .object C) (h6 : 5 ≤ t) (h11 : t < 11) (hd : decode Y.2.1 pc = .ok (.aastore, 1)) : zStep V Y pc (oAst9o V t C) (pc + 1) := by
  intro K hK ls st X k n h p e s m args below meth co H locs lsA hF hR hq hL
  unfold oAst9o at h
  split at h
  · next v i a r =>
    obtain ⟨ht, hin, hv, h⟩ := h
    obtain ⟨hx, hb, hrt, hml, hown, hts, hlk0, hnm, hxt, hRS⟩ := id hF
    have hs := zt_some ht (by omega)
    have hcell := (hR.2.1 a _ hs).2.2.2.2.1 (by simp; omega) (by simp; omega)
    obtain ⟨cellV, g1, g3, g2, -⟩ := (hv s hRS.2.2.1).kept hR.old
    obtain ⟨kC, hkC, -⟩ := Vm.findClass_spec g2
    have hlt : i.toNatClampNeg < zn X.2.1 a := Nat.not_le.mp fun q => hin (Or.inr q)
    have h0 : ¬ i < 0 := fun q => hin (Or.inl q)
    have hT := hRS.1.2 t _ (ztys_at h11)
    rw [h5] at hT
    obtain ⟨kA, comp, k1, k2, k3, -⟩ := hT.2
    have hcomp : comp = cellV.cls := Option.some.inj (k3.symm.trans g2)
    subst hcomp
    refine W.aast hx hb hcell (fun q h => by cases h) (fun h => by cases h) k1 k2 rfl hkC ⟨h0, by show _ < (arrV _ _ _).slots.size; rw [arrV_size]; exact hlt⟩ g1 (fun q h => by rw [h] at g3; cases g3) hkC (va_asg _ _) rfl rfl hd fun H1 e1 z oq => ?_
    refine hK _ _ _ _ _ h p e s m args below meth co H1 _ lsA hF (hR.setr hs z oq ?_) (zlocs hq (hR.2.1 _ _ hs).1) hL
    refine ⟨fun t => absurd t (by simp; omega), fun t => absurd t (by simp; omega), fun _ _ => ?_, fun t => absurd t (by simp; omega)⟩
    rw [e1, arrV_store]
    congr 2
    funext q
    by_cases hq : q = i.toNatClampNeg
    · subst hq; simp [updV, va_up, va_rf]
    · simp [updV, va_up, hq]
  · exact h.elim
def oInst (c : Nat) (K : zK) : zK := fun ls st X k n => match st with
  | .ref a :: r => zt X.2.1 a = 20 + c ∧ K ls (.int (nI 1) :: r) X k n
  | _ => False
theorem k_inst {c index : Nat} {C : String} {T : u_T} {N : Nat} (hc : zcf c C T N) (hlk : Cond.classLink Y.1.cls index C ∈ lw_all) (hd : decode Y.2.1 pc = .ok (.instanceof index, 3)) : zStep V Y pc (oInst c) (pc + 3) := by
  intro K hK ls st X k n h p e s m args below meth co H locs lsA hF hR hq hL
  unfold oInst at h
  split at h
  · obtain ⟨ht, h⟩ := h
    obtain ⟨hx, hb, hrt, hml, hown, hts, hlk0, hnm, hxt, hRS⟩ := id hF
    exact va_instE hx hb hown (hts _ hlk) (z_recv hF hR hc ht) hd (hK _ _ _ _ _ h p e s m args below meth co H locs lsA hF hR hq hL)
  · exact h.elim
/-- a char or a byte is answered -/
def oRN (V : zV) (ty : FieldType) : zK := fun _ st X k n => match st with
  | [.int v] => narrow ty (.int v) = .int v ∧ V.2.2.2.2.2.1 (some (.int v)) X ∧ k ≤ V.2.2.2.1 ∧ n ≤ V.2.2.2.2.1
  | _ => False
theorem k_nreturn {ty : FieldType} (hr : Y.2.2.2.1 = some ty) (hd : decode Y.2.1 pc = .ok (.ireturn, 1)) : ∀ ls st X k n, oRN V ty ls st X k n → zW V Y pc ls st X k n := by
  intro ls st X k n h
  exact k_xreturn (ok := fun v => narrow ty (.int v) = .int v) (fun _ h => h) hr hd ls st X k n h
/-- super.m(..) -/
def zmSU (Y : zY) (own : String) (na : Nat) : Prop := Cond.sameMethod Y.1.cls Y.1.cls Y.1.name Y.1.desc ∈ lw_all ∧ Cond.superclass own Y.1.cls ∈ lw_all ∧ Cond.instanceMethod Y.1 ∈ lw_all ∧ Cond.initialized Y.1.cls ∈ lw_all ∧ Cond.code Y.1 Y.2.1 Y.2.2.1 Y.2.2.2.1 ∈ lw_all ∧ (Y.1.name ≠ "<init>" ∧ (parseMethodDescriptor Y.1.desc).map (fun d => d.parameters.length) = some na) ∧ Y.2.2.1 ≤ 45 ∧ Y.2.2.2.2 = []
theorem k_callSU {Y' : zY} {c na index : Nat} {C own : String} {T : u_T} {N : Nat} {KX : List (Option Value) → Nat → zX → Nat → Nat → Prop} (hT : zTh V Y pc KX) (hc : zcf c C T N) (ho : Y.1.cls = own) (hm : zmSU Y' own na) (hlk : Cond.methodLink own index Y'.1 ∈ lw_all) (hd : decode Y.2.1 pc = .ok (.invokespecial index, 3)) : zStep V Y pc (oCV V Y' c na KX) (pc + 3) := by
  intro K hK ls st X k n h p e s m args below meth co H locs lsA hF hR hq hL
  subst ho
  unfold oCV at h
  split at h
  · next b r hdr =>
    obtain ⟨ht, hr, hta, d0, mc0, ms0, Q0, QX0, hM, hdd, hk, hn, h1, h2⟩ := h
    obtain ⟨m1, m2, m3, m4, m8, m5, m6, m7⟩ := hm
    unfold zM at hM
    rw [zwsN m7] at hM
    obtain ⟨hx, hb, hrt, hml, hown, hts, hlk0, hnm, hxt, hRS⟩ := id hF
    have hst : st = st.take na ++ .ref b :: r := by rw [← hdr, List.take_append_drop]
    have hG : GoodIn lw_all (va_wsSU Y.1.cls index Y'.1 (ws_ Y'.1 Y'.2.1 Y'.2.2.1 Y'.2.2.2.1)) := by
      unfold va_wsSU
      refine lw_app ?_ (lw_meth m8)
      intro w hw
      simp only [List.mem_cons, List.not_mem_nil, or_false] at hw
      rcases hw with rfl | rfl | rfl | rfl | rfl
      · exact hlk
      · exact m1
      · exact m2
      · exact m3
      · exact m4
    exact z_run (zx_runSU (As := (st.take na).reverse) (rest := r) (hRS.1.1 c _ hc.1).2 ⟨hx, hb, hml, hown, hts⟩ hM (va_cwSU na hts hG rfl rfl rfl m5 ⟨hdd, by show 8 + (Y'.2.2.1 + 11) + 64 * d0 ≤ 64 * V.2.2.1; omega⟩)
      ⟨zblind, z_recv hF hR hc ht, fun U hU hW => ⟨rfl, hRS.warm hW, by rw [hU]; exact hR⟩⟩ rfl (by rw [List.length_reverse]; exact hta) hL.1 (by rw [List.reverse_reverse]; exact hst) (lv_room (z_sum hr)) hd ⟨hk, hn⟩) hF hq hL hK hT h1 h2
  · exact h.elim
/-- an overriding method -/
def zmO (x : MethodName) (Y : zY) (C : String) (na : Nat) : Prop := (Cond.sameMethod x.cls x.cls x.name x.desc ∈ lw_all ∧ Cond.instanceMethod ⟨x.cls, x.name, x.desc⟩ ∈ lw_all ∧ Cond.selects C x Y.1 ∈ lw_all) ∧ Cond.instanceMethod Y.1 ∈ lw_all ∧ Cond.initialized Y.1.cls ∈ lw_all ∧ Cond.code Y.1 Y.2.1 Y.2.2.1 Y.2.2.2.1 ∈ lw_all ∧ (∃ b0 m0 r0, Cond.code ⟨x.cls, x.name, x.desc⟩ b0 m0 r0 ∈ lw_all) ∧ (x.cls ≠ "java/lang/invoke/MethodHandle" ∧ x.cls ≠ "java/lang/invoke/VarHandle" ∧ (parseMethodDescriptor x.desc).map (fun d => d.parameters.length) = some na) ∧ Y.2.2.1 ≤ 45 ∧ Y.2.2.2.2 = []
theorem k_callO {x : MethodName} {Y' : zY} {c na index : Nat} {C : String} {T : u_T} {N : Nat} {KX : List (Option Value) → Nat → zX → Nat → Nat → Prop} (hT : zTh V Y pc KX) (hc : zcf c C T N) (hm : zmO x Y' C na) (hlk : Cond.methodLink Y.1.cls index x ∈ lw_all) (hd : decode Y.2.1 pc = .ok (.invokevirtual index, 3)) : zStep V Y pc (oCV V Y' c na KX) (pc + 3) := by
  intro K hK ls st X k n h p e s m args below meth co H locs lsA hF hR hq hL
  unfold oCV at h
  split at h
  · next b r hdr =>
    obtain ⟨ht, hr, hta, d0, mc0, ms0, Q0, QX0, hM, hdd, hk, hn, h1, h2⟩ := h
    obtain ⟨⟨m1, m2, m3⟩, m4, m8, m9, ⟨b0, m0, r0, m10⟩, m5, m6, m7⟩ := hm
    unfold zM at hM
    rw [zwsN m7] at hM
    obtain ⟨hx, hb, hrt, hml, hown, hts, hlk0, hnm, hxt, hRS⟩ := id hF
    have hst : st = st.take na ++ .ref b :: r := by rw [← hdr, List.take_append_drop]
    have hG : GoodIn lw_all (va_wsO Y.1.cls index C x.cls x Y'.1 (ws_ Y'.1 Y'.2.1 Y'.2.2.1 Y'.2.2.2.1)) := by
      unfold va_wsO
      refine lw_app ?_ (lw_meth m9)
      intro w hw
      simp only [List.mem_cons, List.not_mem_nil, or_false] at hw
      rcases hw with rfl | rfl | rfl | rfl | rfl | rfl
      · exact hlk
      · exact m1
      · exact m2
      · exact m3
      · exact m4
      · exact m8
    have cw : va_CU (zroom V.2.2.1 V.2.2.2.1 V.2.2.2.2.1) s args Y.1.cls C x.cls index x Y'.1 Y'.2.1 Y'.2.2.1 Y'.2.2.2.1 (ws_ Y'.1 Y'.2.1 Y'.2.2.1 Y'.2.2.2.1) (zroom d0 mc0 ms0) mc0 ms0 na :=
      va_cwO na hts hG rfl rfl rfl m10 m5 ⟨hdd, by show 8 + (Y'.2.2.1 + 11) + 64 * d0 ≤ 64 * V.2.2.1; omega⟩
    exact z_run (zx_runU (As := (st.take na).reverse) (rest := r) ⟨hx, hb, hml, hown, hts⟩ hM cw
      ⟨zblind, z_recv hF hR hc ht, fun U hU hW => ⟨rfl, hRS.warm hW, by rw [hU]; exact hR⟩⟩ rfl (by rw [List.length_reverse]; exact hta) hL.1 (by rw [List.reverse_reverse]; exact hst) (lv_room (z_sum hr)) hd ⟨hk, hn⟩) hF hq hL hK hT h1 h2
  · exact h.elim
def zsN (E : zE) (w : Cond) : Prop := zP0 E (fun U _ => va_Nw w U)
/-- a private method of a superclass: that it is selected stands from the start -/
def oCVp (V : zV) (Y' : zY) (C : String) (c na : Nat) (KX : List (Option Value) → Nat → zX → Nat → Nat → Prop) (K : zK) : zK := fun ls st X k n => zsN V.2.1 (Cond.selects C Y'.1 Y'.1) ∧ oCV V Y' c na KX K ls st X k n
def zmP (Y : zY) (na : Nat) : Prop := Cond.sameMethod Y.1.cls Y.1.cls Y.1.name Y.1.desc ∈ lw_all ∧ Cond.instanceMethod Y.1 ∈ lw_all ∧ Cond.initialized Y.1.cls ∈ lw_all ∧ Cond.code Y.1 Y.2.1 Y.2.2.1 Y.2.2.2.1 ∈ lw_all ∧ (Y.1.cls ≠ "java/lang/invoke/MethodHandle" ∧ Y.1.cls ≠ "java/lang/invoke/VarHandle" ∧ (parseMethodDescriptor Y.1.desc).map (fun d => d.parameters.length) = some na) ∧ Y.2.2.1 ≤ 45 ∧ Y.2.2.2.2 = []
theorem k_callP {Y' : zY} {c na index : Nat} {C : String} {T : u_T} {N : Nat} {KX : List (Option Value) → Nat → zX → Nat → Nat → Prop} (hT : zTh V Y pc KX) (hc : zcf c C T N) (hm : zmP Y' na) (hlk : Cond.methodLink Y.1.cls index Y'.1 ∈ lw_all) (hd : decode Y.2.1 pc = .ok (.invokevirtual index, 3)) : zStep V Y pc (oCVp V Y' C c na KX) (pc + 3) := by
  intro K hK ls st X k n h p e s m args below meth co H locs lsA hF hR hq hL
  obtain ⟨hsel, h⟩ := h
  unfold oCV at h
  split at h
  · next b r hdr =>
    obtain ⟨ht, hr, hta, d0, mc0, ms0, Q0, QX0, hM, hdd, hk, hn, h1, h2⟩ := h
    obtain ⟨m1, m3, m4, m8, m5, m6, m7⟩ := hm
    unfold zM at hM
    rw [zwsN m7] at hM
    obtain ⟨hx, hb, hrt, hml, hown, hts, hlk0, hnm, hxt, hRS⟩ := id hF
    have hst : st = st.take na ++ .ref b :: r := by rw [← hdr, List.take_append_drop]
    have hs1 : (Cond.selects C Y'.1 Y'.1).before args s = true := va_tabs (by first | rfl | simp [Cond.onTables]) rfl (hsel s hRS.2.2.1)
    have hts2 : ∀ w ∈ Cond.selects C Y'.1 Y'.1 :: lw_all, w.before args s = true := fun w hw => by
      rcases List.mem_cons.mp hw with rfl | hw
      · exact hs1
      · exact hts w hw
    have up : ∀ {l : List Cond}, GoodIn lw_all l → GoodIn (Cond.selects C Y'.1 Y'.1 :: lw_all) l := fun hg w hw => ⟨List.mem_cons_of_mem _ (hg w hw).1, (hg w hw).2⟩
    have hG : GoodIn (Cond.selects C Y'.1 Y'.1 :: lw_all) (va_wsU Y.1.cls index C Y'.1.cls Y'.1 Y'.1 (ws_ Y'.1 Y'.2.1 Y'.2.2.1 Y'.2.2.2.1)) := by
      unfold va_wsU
      intro w hw
      rcases List.mem_append.mp hw with hw | hw
      · simp only [List.mem_cons, List.not_mem_nil, or_false] at hw
        rcases hw with rfl | rfl | rfl | rfl | rfl
        · exact up lw_self _ hlk
        · exact up lw_self _ m1
        · exact ⟨List.mem_cons_self, Or.inl rfl⟩
        · exact up lw_self _ m3
        · exact up lw_self _ m4
      · exact up (lw_meth m8) w hw
    have cw : va_CU (zroom V.2.2.1 V.2.2.2.1 V.2.2.2.2.1) s args Y.1.cls C Y'.1.cls index Y'.1 Y'.1 Y'.2.1 Y'.2.2.1 Y'.2.2.2.1 (ws_ Y'.1 Y'.2.1 Y'.2.2.1 Y'.2.2.2.1) (zroom d0 mc0 ms0) mc0 ms0 na :=
      va_cwU na hts2 hG rfl rfl rfl rfl m5 ⟨hdd, by show 8 + (Y'.2.2.1 + 11) + 64 * d0 ≤ 64 * V.2.2.1; omega⟩
    exact z_run (zx_runU (As := (st.take na).reverse) (rest := r) ⟨hx, hb, hml, hown, hts2⟩ hM cw
      ⟨zblind, z_recv hF hR hc ht, fun U hU hW => ⟨rfl, hRS.warm hW, by rw [hU]; exact hR⟩⟩ rfl (by rw [List.length_reverse]; exact hta) hL.1 (by rw [List.reverse_reverse]; exact hst) (lv_room (z_sum hr)) hd ⟨hk, hn⟩) hF hq hL hK hT h1 h2
  · exact h.elim
/-- a row of objects of one of these classes -/
def oAst9s (t : Nat) (cs : List Nat) (K : zK) : zK := fun ls st X k n => match st with
  | .ref v :: .int i :: .ref a :: r => ∃ c ∈ cs, zt X.2.1 a = t ∧ vp_in i (zn X.2.1 a) ∧ zt X.2.1 v = 20 + c ∧ K ls r (X.1, zur X.2.1 a i.toNatClampNeg (some v), X.2.2.1, X.2.2.2) k n
  | _ => False
theorem k_aastoreS {t pc2 : Nat} {cs : List Nat} (h : ∀ c ∈ cs, zStep V Y pc (oAst9 t c) pc2) : zStep V Y pc (oAst9s t cs) pc2 := by
  intro K hK ls st X k n hop
  unfold oAst9s at hop
  split at hop
  · obtain ⟨c, hc, h1, h2, h3, h4⟩ := hop
    exact h c hc K hK ls _ X k n ⟨h1, h2, h3, h4⟩
  · exact hop.elim
def oCasts (cs : List Nat) (K : zK) : zK := fun ls st X k n => match st with
  | .ref a :: r => ∃ c ∈ cs, zt X.2.1 a = 20 + c ∧ K ls (.ref a :: r) X k n
  | _ => False
theorem k_castS {pc2 : Nat} {cs : List Nat} (h : ∀ c ∈ cs, zStep V Y pc (oCast c) pc2) : zStep V Y pc (oCasts cs) pc2 := by
  intro K hK ls st X k n hop
  unfold oCasts at hop
  split at hop
  · obtain ⟨c, hc, h1, h2⟩ := hop
    exact h c hc K hK ls _ X k n ⟨h1, h2⟩
  · exact hop.elim
def oGRs (cs : List (Nat × Nat)) (K : zK) : zK := fun ls st X k n => match st with
  | .ref a :: r => ∃ q ∈ cs, zt X.2.1 a = 20 + q.1 ∧ K ls (va_rf (zr X.2.1 a q.2) :: r) X k n
  | _ => False
theorem k_getRs {pc2 : Nat} {cs : List (Nat × Nat)} (h : ∀ q ∈ cs, zStep V Y pc (oGR q.1 q.2) pc2) : zStep V Y pc (oGRs cs) pc2 := by
  intro K hK ls st X k n hop
  unfold oGRs at hop
  split at hop
  · obtain ⟨c, hc, h1, h2⟩ := hop
    exact h c hc K hK ls _ X k n ⟨h1, h2⟩
  · exact hop.elim
def oPRs (cs : List (Nat × Nat)) (K : zK) : zK := fun ls st X k n => match st with
  | .ref x :: .ref a :: r => ∃ q ∈ cs, zt X.2.1 a = 20 + q.1 ∧ K ls r (X.1, zur X.2.1 a q.2 (some x), X.2.2.1, X.2.2.2) k n
  | _ => False
theorem k_putRs {pc2 : Nat} {cs : List (Nat × Nat)} (h : ∀ q ∈ cs, zStep V Y pc (oPR q.1 q.2) pc2) : zStep V Y pc (oPRs cs) pc2 := by
  intro K hK ls st X k n hop
  unfold oPRs at hop
  split at hop
  · obtain ⟨c, hc, h1, h2⟩ := hop
    exact h c hc K hK ls _ X k n ⟨h1, h2⟩
  · exact hop.elim
def oDupR (K : zK) : zK := fun ls st X k n => match st with
  | .ref x :: .ref a :: r => K ls (.ref x :: .ref a :: .ref x :: r) X k n
  | _ => False
theorem k_dup_x1R (hd : decode Y.2.1 pc = .ok (.dup_x1, 1)) : zStep V Y pc oDupR (pc + 1) := by
  intro K hK ls st X k n h p e s m args below meth c H locs lsA hF hR hq hL
  unfold oDupR at h
  split at h
  · exact lv_dup_x1 hF.1 hF.2.1 hd rfl rfl (hK _ _ _ _ _ h p e s m args below meth c H locs lsA hF hR hq hL)
  · exact h.elim
end ZO
theorem zsf_mod : zsf "java/util/ArrayList" TJ5 0 := fun s args hts x hx => u_same (hts _ q354) x hx
