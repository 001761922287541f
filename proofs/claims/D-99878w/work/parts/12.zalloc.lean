/-! z-layer, 6: new cells, casts, switches, inherited and abstract methods -/
def zdf (ty : FieldType) : Bool := match ty with
  | .long => false
  | .float => false
  | .double => false
  | _ => true
theorem zdf_ok {c j : Nat} (h : zdf (zfty c j) = true) : defaultValue (zfty c j) = zfv c (fun _ => none) (fun _ => 0) j := by
  unfold zfv
  cases hz : zfty c j <;> rw [hz] at h <;> first | (cases h; done) | rfl
section ZD
variable {V : zV} {Y : zY} {pc : Nat}
def oNew (V : zV) (c N : Nat) (K : zK) : zK := fun ls st X k n => k + 1 ≤ V.2.2.2.1 ∧ n + N ≤ V.2.2.2.2.1 ∧ K ls (.ref X.1 :: st) (znew X (20 + c, 0, fun _ => none)) (k + 1) (n + N)
theorem k_new {c N index : Nat} {C : String} {T : u_T} (hc : zcf c C T N) (hdf : (List.range N).all (fun j => zdf (zfty c j)) = true) (hcl : Cond.classLink Y.1.cls index C ∈ lw_all) (hin : Cond.instantiable C N ∈ lw_all) (hini : Cond.initialized C ∈ lw_all) (hd : decode Y.2.1 pc = .ok (.new index, 3)) : zStep V Y pc (oNew V c N) (pc + 3) := by
  intro K hK ls st X k n h p e s m args below meth co H locs lsA hF hR hq hL
  obtain ⟨hk, hn, h⟩ := h
  obtain ⟨hx, hb, hrt, hml, hown, hts, hlk0, hnm, hxt, hRS⟩ := id hF
  have hKn := hRS.1.1 c _ hc.1
  refine W.newcK hx hb hown (hts _ hcl) (hts _ hin) (hts _ hini) rfl hd hk hn hKn.2.1 rfl fun H1 kC hkC e1 z1 o1 => ?_
  have hdf' : ∀ j, j < N → defaultValue (zfty c j) = zfv c (fun _ => none) (fun _ => 0) j := fun j hj => zdf_ok (List.all_eq_true.mp hdf j (List.mem_range.mpr hj))
  have hat : zat V.2.1 H.size (20 + c, 0, fun _ => none) (fun _ => 0) (fun _ => 0) H1 := by
    refine ⟨fun t => absurd t (by simp; omega), fun t => absurd t (by simp; omega), fun t t2 => absurd t2 (by simp), fun _ => ⟨_, (by simp only [Nat.add_sub_cancel_left]; exact hc.1), ?_⟩⟩
    simp only [Nat.add_sub_cancel_left]
    exact (u_born (zfty c) hts hc.2.1 hKn hkC e1 hc.2.2.1).to hdf'
  rw [hR.1] at *
  exact hK _ _ _ _ _ h p e s m args below meth co H1 locs lsA hF (hR.push (by rw [z1, hR.1]) (fun b hb => o1 b (by rw [← hR.1]; exact hb)) (by rw [hR.1]; exact hat)) hq hL
def oNewa (V : zV) (t : Nat) (K : zK) : zK := fun ls st X k n => match st with
  | .int i :: r => ¬ i < 0 ∧ i.toNatClampNeg ≤ 100000 ∧ k + 1 ≤ V.2.2.2.1 ∧ n + i.toNatClampNeg ≤ V.2.2.2.2.1 ∧ K ls (.ref X.1 :: r) (znew X (t, i.toNatClampNeg, fun _ => none)) (k + 1) (n + i.toNatClampNeg)
  | _ => False
def zat5 (t : Nat) (ty : ArrayType) : Prop := (t = 0 ∧ ty = .int) ∨ (t = 1 ∧ ty = .byte) ∨ (t = 2 ∧ ty = .boolean) ∨ (t = 3 ∧ ty = .short) ∨ (t = 4 ∧ ty = .long)
theorem k_newarray {t : Nat} {ty : ArrayType} (h5 : zat5 t ty) (har : Cond.arrayClass (newarray.typeOf ty) ∈ lw_all) (hd : decode Y.2.1 pc = .ok (.newarray ty, 2)) : zStep V Y pc (oNewa V t) (pc + 2) := by
  intro K hK ls st X k n h p e s m args below meth co H locs lsA hF hR hq hL
  unfold oNewa at h
  split at h
  · next i r =>
    obtain ⟨h0, hi, hk, hn, h⟩ := h
    obtain ⟨hx, hb, hrt, hml, hown, hts, hlk0, hnm, hxt, hRS⟩ := id hF
    refine va_newaK hx hb (hts _ har) rfl hd rfl h0 rfl ?_ hk hn rfl fun H1 cA e1 z1 o1 hAr hNm => ?_
    · rcases h5 with ⟨-, rfl⟩ | ⟨-, rfl⟩ | ⟨-, rfl⟩ | ⟨-, rfl⟩ | ⟨-, rfl⟩ <;> simp [componentBytes, newarray.typeOf] <;> omega
    have hcA : cA = V.2.1.2.1 t := by
      rcases h5 with ⟨rfl, rfl⟩ | ⟨rfl, rfl⟩ | ⟨rfl, rfl⟩ | ⟨rfl, rfl⟩ | ⟨rfl, rfl⟩
      · exact Option.some.inj (hNm.symm.trans (hRS.1.2 0 _ (ztys_at (by omega))).2)
      · exact Option.some.inj (hNm.symm.trans (hRS.1.2 1 _ (ztys_at (by omega))).2)
      · exact Option.some.inj (hNm.symm.trans (hRS.1.2 2 _ (ztys_at (by omega))).2)
      · exact Option.some.inj (hNm.symm.trans (hRS.1.2 3 _ (ztys_at (by omega))).2)
      · exact Option.some.inj (hNm.symm.trans (hRS.1.2 4 _ (ztys_at (by omega))).2)
    subst hcA
    have hat : zat V.2.1 H.size (t, i.toNatClampNeg, fun _ => none) (fun _ => 0) (fun _ => 0) H1 := by
      rcases h5 with ⟨rfl, rfl⟩ | ⟨rfl, rfl⟩ | ⟨rfl, rfl⟩ | ⟨rfl, rfl⟩ | ⟨rfl, rfl⟩
      · exact ⟨fun _ => e1, fun t => absurd t (by simp), fun t => absurd t (by simp), fun t => absurd t (by simp)⟩
      · exact ⟨fun _ => e1, fun t => absurd t (by simp), fun t => absurd t (by simp), fun t => absurd t (by simp)⟩
      · exact ⟨fun _ => e1, fun t => absurd t (by simp), fun t => absurd t (by simp), fun t => absurd t (by simp)⟩
      · exact ⟨fun _ => e1, fun t => absurd t (by simp), fun t => absurd t (by simp), fun t => absurd t (by simp)⟩
      · exact ⟨fun t => absurd t (by simp), fun _ => e1, fun t => absurd t (by simp), fun t => absurd t (by simp)⟩
    rw [hR.1] at *
    exact hK _ _ _ _ _ h p e s m args below meth co H1 locs lsA hF (hR.push (by rw [z1, hR.1]) (fun b hb => o1 b (by rw [← hR.1]; exact hb)) (by rw [hR.1]; exact hat)) hq hL
  · exact h.elim
theorem k_anewarray {t index : Nat} {C : String} (h5 : zty t = .object C) (h6 : 5 ≤ t) (h11 : t < 11) (hcl : Cond.classLink Y.1.cls index C ∈ lw_all) (hao : Cond.arrayOver (.object C) ∈ lw_tbl) (hd : decode Y.2.1 pc = .ok (.anewarray index, 3)) : zStep V Y pc (oNewa V t) (pc + 3) := by
  intro K hK ls st X k n h p e s m args below meth co H locs lsA hF hR hq hL
  unfold oNewa at h
  split at h
  · next i r =>
    obtain ⟨h0, hi, hk, hn, h⟩ := h
    obtain ⟨hx, hb, hrt, hml, hown, hts, hlk0, hnm, hxt, hRS⟩ := id hF
    have hover : va_AO C s := hRS.2.1 _ (List.mem_filter.mpr ⟨hao, rfl⟩)
    refine W.anew hx hb hown (hts _ hcl) (va_AO.use hover) rfl hd rfl h0 (by omega) hk hn fun cA kA comp f1 f2 f3 f4 => ?_
    have hT := hRS.1.2 t _ (ztys_at h11)
    rw [h5] at hT
    obtain ⟨kA', comp', -, -, -, hNm⟩ := hT.2
    cases Option.some.inj (hNm.symm.trans f1)
    generalize hH1 : H.push ({ cls := V.2.1.2.1 t, slots := Array.replicate i.toNatClampNeg .null, vm := .none } : Cell) = H1
    have z1 : H1.size = H.size + 1 := by rw [← hH1, Array.size_push]
    have e1 : H1[H.size]? = some (arrV (V.2.1.2.1 t) i.toNatClampNeg (fun _ => .null)) := by rw [← hH1, Array.getElem?_push_size, ← arrV_new]
    have o1 : ∀ q : Nat, q < H.size → H1[q]? = H[q]? := fun q hq => by rw [← hH1, Array.getElem?_push, if_neg (Nat.ne_of_lt hq)]
    have hat : zat V.2.1 H.size (t, i.toNatClampNeg, fun _ => none) (fun _ => 0) (fun _ => 0) H1 :=
      ⟨fun t => absurd t (by simp; omega), fun t => absurd t (by simp; omega), fun _ _ => e1, fun t => absurd t (by simp; omega)⟩
    rw [hR.1] at *
    exact hK _ _ _ _ _ h p e s m args below meth co H1 locs lsA hF (hR.push (by rw [z1, hR.1]) (fun b hb => o1 b (by rw [← hR.1]; exact hb)) (by rw [hR.1]; exact hat)) hq hL
  · exact h.elim
/-- a cell of class c is put into an array of type t -/
def oAst9 (t c : Nat) (K : zK) : zK := fun ls st X k n => match st with
  | .ref v :: .int i :: .ref a :: r => zt X.2.1 a = t ∧ vp_in i (zn X.2.1 a) ∧ zt X.2.1 v = 20 + c ∧ K ls r (X.1, zur X.2.1 a i.toNatClampNeg (some v), X.2.2.1, X.2.2.2) k n
  | _ => False
theorem k_aastore {t c : Nat} {C C0 : String} {T : u_T} {N : Nat} (h5 : zty t = .object C0) (h6 : 5 ≤ t) (h11 : t < 11) (hc : zcf c C T N) (hcast : C = C0 ∨ Cond.castable C C0 ∈ lw_tbl) (hd : decode Y.2.1 pc = .ok (.aastore, 1)) : zStep V Y pc (oAst9 t c) (pc + 1) := by
  intro K hK ls st X k n h p e s m args below meth co H locs lsA hF hR hq hL
  unfold oAst9 at h
  split at h
  · next v i a r =>
    obtain ⟨ht, hin, hv, h⟩ := h
    obtain ⟨hx, hb, hrt, hml, hown, hts, hlk0, hnm, hxt, hRS⟩ := id hF
    have hs := zt_some ht (by omega)
    have hcell := (hR.2.1 a _ hs).2.2.2.2.1 (by simp; omega) (by simp; omega)
    obtain ⟨⟨cellV, g1, g2, g3, -⟩, hsv⟩ := zobj hR hc hv
    have hlt : i.toNatClampNeg < zn X.2.1 a := Nat.not_le.mp fun q => hin (Or.inr q)
    have h0 : ¬ i < 0 := fun q => hin (Or.inl q)
    have hcls := (hRS.1.1 c _ hc.1).2
    have hT := hRS.1.2 t _ (ztys_at h11)
    rw [h5] at hT
    obtain ⟨kA, comp, k1, k2, k3, -⟩ := hT.2
    obtain ⟨kC, hkC, hkk⟩ := hcls.2
    have hasg : s.vm.assignable (V.2.1.1.1 c) comp = true ∧ ∃ kc, s.vm.classes[comp]? = some kc := by
      rcases hcast with rfl | hcast
      · have hcomp : comp = V.2.1.1.1 c := Option.some.inj (k3.symm.trans hcls.1)
        subst hcomp
        exact ⟨va_assign ⟨hcls.1, kC, hkC, hkk⟩, kC, hkC⟩
      · obtain ⟨c3, c4, hc3, hc4, hasg⟩ := Cond.castable_spec (hRS.2.1 _ (List.mem_filter.mpr ⟨hcast, rfl⟩))
        cases Option.some.inj (hc3.symm.trans hcls.1)
        cases Option.some.inj (hc4.symm.trans k3)
        obtain ⟨k9, h9, -⟩ := Vm.findClass_spec k3
        exact ⟨hasg, k9, h9⟩
    obtain ⟨hasg, kc, hkc⟩ := hasg
    refine W.aast hx hb hcell (fun q h => by cases h) (fun h => by cases h) k1 k2 rfl hkc ⟨h0, by show _ < (arrV _ _ _).slots.size; rw [arrV_size]; exact hlt⟩ g1 (fun q h => by rw [g3] at h; cases h) (by rw [g2]; exact hkC) (by rw [g2]; exact hasg) rfl rfl hd fun H1 e1 z oq => ?_
    refine hK _ _ _ _ _ h p e s m args below meth co H1 _ lsA hF (hR.setr hs z oq ?_) (zlocs hq (hR.2.1 _ _ hs).1) hL
    refine ⟨fun t => absurd t (by simp; omega), fun t => absurd t (by simp; omega), fun _ _ => ?_, fun t => absurd t (by simp; omega)⟩
    rw [e1, arrV_store]
    congr 2
    funext q
    by_cases hq : q = i.toNatClampNeg
    · subst hq; simp [updV, va_up, va_rf]
    · simp [updV, va_up, hq]
  · exact h.elim
def oCast (c : Nat) (K : zK) : zK := fun ls st X k n => match st with
  | .ref a :: r => zt X.2.1 a = 20 + c ∧ K ls (.ref a :: r) X k n
  | .null :: r => K ls (.null :: r) X k n
  | _ => False
theorem k_checkcast {c index : Nat} {C nm : String} {T : u_T} {N : Nat} (hc : zcf c C T N) (hcast : C = nm ∨ Cond.castable C nm ∈ lw_tbl) (hlk : Cond.classLink Y.1.cls index nm ∈ lw_all) (hd : decode Y.2.1 pc = .ok (.checkcast index, 3)) : zStep V Y pc (oCast c) (pc + 3) := by
  intro K hK ls st X k n h p e s m args below meth co H locs lsA hF hR hq hL
  obtain ⟨hx, hb, hrt, hml, hown, hts, hlk0, hnm, hxt, hRS⟩ := id hF
  unfold oCast at h
  split at h
  · obtain ⟨ht, h⟩ := h
    have hrc := z_recv hF hR hc ht
    rcases hcast with rfl | hcast
    · exact va_castS hx hb hown (hts _ hlk) (hRS.1.1 c _ hc.1).2 hrc hd (hK _ _ _ _ _ h p e s m args below meth co H locs lsA hF hR hq hL)
    · exact va_castY hx hb hown (hts _ hlk) (hRS.2.1 _ (List.mem_filter.mpr ⟨hcast, rfl⟩)) hrc hd (hK _ _ _ _ _ h p e s m args below meth co H locs lsA hF hR hq hL)
  · exact lv_castN hx hb hd (hK _ _ _ _ _ h p e s m args below meth co H locs lsA hF hR hq hL)
  · exact h.elim
/-- an inherited method: x is named, y runs (of the class 'owner', inherited by C) -/
def zmU (x : MethodName) (Y : zY) (C owner : String) (na : Nat) : Prop := Cond.sameMethod x.cls owner x.name x.desc ∈ lw_all ∧ Cond.selects C x Y.1 ∈ lw_all ∧ Cond.instanceMethod Y.1 ∈ lw_all ∧ Cond.initialized Y.1.cls ∈ lw_all ∧ Cond.code Y.1 Y.2.1 Y.2.2.1 Y.2.2.2.1 ∈ lw_all ∧ (Y.1 = ⟨owner, x.name, x.desc⟩ ∨ Cond.declares ⟨owner, x.name, x.desc⟩ ∈ lw_tbl) ∧ (owner ≠ "java/lang/invoke/MethodHandle" ∧ owner ≠ "java/lang/invoke/VarHandle" ∧ (parseMethodDescriptor x.desc).map (fun d => d.parameters.length) = some na) ∧ Y.2.2.1 ≤ 45 ∧ Y.2.2.2.2 = []
theorem k_callU {x : MethodName} {Y' : zY} {c na index : Nat} {C owner : String} {T : u_T} {N : Nat} {KX : List (Option Value) → Nat → zX → Nat → Nat → Prop} (hT : zTh V Y pc KX) (hc : zcf c C T N) (hm : zmU x Y' C owner na) (hlk : Cond.methodLink Y.1.cls index x ∈ lw_all) (hd : decode Y.2.1 pc = .ok (.invokevirtual index, 3)) : zStep V Y pc (oCV V Y' c na KX) (pc + 3) := by
  intro K hK ls st X k n h p e s m args below meth co H locs lsA hF hR hq hL
  unfold oCV at h
  split at h
  · next b r hdr =>
    obtain ⟨ht, hr, hta, d0, mc0, ms0, Q0, QX0, hM, hdd, hk, hn, h1, h2⟩ := h
    obtain ⟨m1, m2, m3, m4, m8, m9, m5, m6, m7⟩ := hm
    unfold zM at hM
    rw [zwsN m7] at hM
    obtain ⟨hx, hb, hrt, hml, hown, hts, hlk0, hnm, hxt, hRS⟩ := id hF
    have hst : st = st.take na ++ .ref b :: r := by rw [← hdr, List.take_append_drop]
    have hG : GoodIn lw_all (va_wsU Y.1.cls index C owner x Y'.1 (ws_ Y'.1 Y'.2.1 Y'.2.2.1 Y'.2.2.2.1)) := by
      unfold va_wsU
      refine lw_app ?_ (lw_meth m8)
      intro w hw
      simp only [List.mem_cons, List.not_mem_nil, or_false] at hw
      rcases hw with rfl | rfl | rfl | rfl | rfl
      · exact hlk
      · exact m1
      · exact m2
      · exact m3
      · exact m4
    have cw : va_CU (zroom V.2.2.1 V.2.2.2.1 V.2.2.2.2.1) s args Y.1.cls C owner index x Y'.1 Y'.2.1 Y'.2.2.1 Y'.2.2.2.1 (ws_ Y'.1 Y'.2.1 Y'.2.2.1 Y'.2.2.2.1) (zroom d0 mc0 ms0) mc0 ms0 na := by
      rcases m9 with m9 | m9
      · exact va_cwU na hts hG rfl rfl rfl m9 m5 ⟨hdd, by show 8 + (Y'.2.2.1 + 11) + 64 * d0 ≤ 64 * V.2.2.1; omega⟩
      · exact va_cwA na hts hG rfl rfl rfl (hRS.2.1 _ (List.mem_filter.mpr ⟨m9, rfl⟩)) m5 ⟨hdd, by show 8 + (Y'.2.2.1 + 11) + 64 * d0 ≤ 64 * V.2.2.1; omega⟩
    exact z_run (zx_runU (As := (st.take na).reverse) (rest := r) ⟨hx, hb, hml, hown, hts⟩ hM cw
      ⟨zblind, z_recv hF hR hc ht, fun U hU hW => ⟨rfl, hRS.warm hW, by rw [hU]; exact hR⟩⟩ rfl (by rw [List.length_reverse]; exact hta) hL.1 (by rw [List.reverse_reverse]; exact hst) (lv_room (z_sum hr)) hd ⟨hk, hn⟩) hF hq hL hK hT h1 h2
  · exact h.elim
/-- a tableswitch: the list of ways from lo on, and the way out -/
def oTsw (lo : Int) (Ks : List zK) (Kd : zK) : zK := fun ls st X k n => match st with
  | .int x :: r => (∀ (i : Nat) (K : zK), Ks[i]? = some K → x.toInt = lo + i → K ls r X k n) ∧ ((x.toInt < lo ∨ lo + Ks.length ≤ x.toInt) → Kd ls r X k n)
  | _ => False
theorem k_tsw {dflt lo hi : Int} {offs : Array Int} {len td : Nat} {Ks : List zK} {Kd : zK} (hd : decode Y.2.1 pc = .ok (.tableswitch dflt lo hi offs, len)) (hlen : hi + 1 = lo + Ks.length) (htd : (pc : Int) + dflt = (td : Int)) (tgts : List Nat) (hto : offs.toList = tgts.map (fun (t : Nat) => (t : Int) - (pc : Int))) (hl : tgts.length = Ks.length) (hKd : ∀ ls st X k n, Kd ls st X k n → zW V Y td ls st X k n)
    (hKs : ∀ (i : Nat) (K : zK) (t : Nat), Ks[i]? = some K → tgts[i]? = some t → ∀ ls st X k n, K ls st X k n → zW V Y t ls st X k n) : ∀ ls st X k n, oTsw lo Ks Kd ls st X k n → zW V Y pc ls st X k n := by
  intro ls st X k n h p e s m args below meth co H locs lsA hF hR hq hL
  unfold oTsw at h
  split at h
  · next x r =>
    by_cases h1 : x.toInt < lo ∨ hi < x.toInt
    · exact lv_tableOut hF.1 hF.2.1 hd h1 htd (hKd _ _ _ _ _ (h.2 (by omega)) p e s m args below meth co H locs lsA hF hR hq hL)
    · have hx : ¬ x.toInt < lo := fun q => h1 (Or.inl q)
      have hx2 : ¬ hi < x.toInt := fun q => h1 (Or.inr q)
      have hi' : (x.toInt - lo).toNat < Ks.length := by omega
      have hi2 : (x.toInt - lo).toNat < tgts.length := by omega
      obtain ⟨K, hK⟩ : ∃ K, Ks[(x.toInt - lo).toNat]? = some K := ⟨_, List.getElem?_eq_getElem hi'⟩
      obtain ⟨t, ht⟩ : ∃ t, tgts[(x.toInt - lo).toNat]? = some t := ⟨_, List.getElem?_eq_getElem hi2⟩
      have hof : offs[(x.toInt - lo).toNat]? = some ((t : Int) - (pc : Int)) := by
        rw [← Array.getElem?_toList, hto, List.getElem?_map, ht]; rfl
      exact lv_tableIn hF.1 hF.2.1 hd hx hx2 hof (by omega) (hKs _ K t hK ht _ _ _ _ _ (h.1 _ K hK (by omega)) p e s m args below meth co H locs lsA hF hR hq hL)
  · exact h.elim
end ZD
