/-! z-layer, 5: entry, returns, calls -/
theorem zwsN {Y : zY} (hh : Y.2.2.2.2 = []) : zws Y = ws_ Y.1 Y.2.1 Y.2.2.1 Y.2.2.2.1 := by
  unfold zws; rw [hh]
theorem zent_L {av : List Value} {nL : Nat} {ls : List (Option Value)} (h : (lg_sl av).length ≤ nL) (hls : zent av nL = ls) : zL ((lg_sl av ++ List.replicate (nL - (lg_sl av).length) Slot.unset).toArray) nL ls := by
  subst hls
  have hl := lv_entry av h
  refine ⟨hl.1, hl.2.1, fun i v hi _ => ?_⟩
  have key : ∀ (vs : List Value) (i0 i : Nat) (v : Value), (vs.flatMap fun (v : Value) => if v.category = 2 then [some v, none] else [some v])[i]? = some (some v) → (i0 + i, v) ∈ lv_args i0 vs := by
    intro vs
    induction vs with
    | nil => intro i0 i v h; simp at h
    | cons w vs ih =>
      intro i0 i v h
      by_cases hc : w.category = 2
      · simp only [List.flatMap_cons, hc, if_true, List.cons_append, List.nil_append] at h
        simp only [lv_args, hc, if_true]
        match i, h with
        | 0, h => simp at h; subst h; simp
        | 1, h => simp at h
        | i + 2, h =>
          have := ih (i0 + 2) i v (by simpa using h)
          rw [show i0 + 2 + i = i0 + (i + 2) by omega] at this
          exact List.mem_cons_of_mem _ this
      · simp only [List.flatMap_cons, hc, if_false, List.cons_append, List.nil_append] at h
        simp only [lv_args, hc, if_false]
        match i, h with
        | 0, h => simp at h; subst h; simp
        | i + 1, h =>
          have := ih (i0 + 1) i v (by simpa using h)
          rw [show i0 + 1 + i = i0 + (i + 1) by omega] at this
          exact List.mem_cons_of_mem _ this
  have h1 : (av.flatMap fun (v : Value) => if v.category = 2 then [some v, none] else [some v])[i]? = some (some v) := by
    unfold zent at hi
    rw [List.getElem?_take] at hi
    split at hi
    · rw [List.getElem?_append] at hi
      split at hi
      · exact hi
      · rw [List.getElem?_replicate] at hi
        split at hi
        · cases hi
        · cases hi
    · cases hi
  have := key av 0 i v h1
  rw [Nat.zero_add] at this
  exact hl.2.2 _ this
section ZC1
variable {l : Launch} {E : zE} {d mc ms : Nat} {Y : zY} {av : List Value} {X : zX} {Q : Option Value → zX → Prop} {QX : Nat → zX → Prop}
/-- a contract out of a walk (no handlers) -/
theorem zM.ofW {ls : List (Option Value)} (hh : Y.2.2.2.2 = []) (hy : plainName Y.1.cls = true) (hn : (lg_sl av).length ≤ Y.2.2.1) (hls : zent av Y.2.2.1 = ls) (h : zW (l, E, d, mc, ms, Q, QX) Y 0 ls [] X 0 0) : zM l E d Y av X mc ms Q QX := by
  unfold zM
  rw [zwsN hh]
  refine zx_ofW hy rfl ?_
  intro p e s m args below meth c s₁ B hml hxt hv
  obtain ⟨rfl, hRS, hRH⟩ := hv
  have hts := atoms_spec (ws := ws_ Y.1 Y.2.1 Y.2.2.1 Y.2.2.2.1) B.pre
  have hts : ∀ w ∈ lw_all, w.before _ s = true := fun w h => hts w (List.mem_cons_of_mem _ h)
  have hx0 : c.exceptionTable.toList = tableOf Y.2.2.2.2 := by
    rw [hh]
    cases h : c.exceptionTable.toList with
    | nil => rfl
    | cons x xs => exact (hxt x (by rw [h]; exact List.mem_cons_self)).elim
  have := h p e s m av.toArray below meth c s.heap [] ((lg_sl av ++ List.replicate (Y.2.2.1 - (lg_sl av).length) Slot.unset).toArray) ⟨B.exec, B.bytes, B.returns, hml, findClass_of_methodNamed B.named, hts, B.notSynchronized, (name_of_methodNamed B.named B.method).1, hx0, hRS⟩ hRH (fun q h => by cases h) (zent_L hn hls)
  rw [lg_entry_eq]
  exact this
/-- a contract out of a walk (handlers) -/
theorem zM.ofWH {ls : List (Option Value)} {h0 : Nat × Nat × Nat × Nat} {hs : List (Nat × Nat × Nat × Nat)} (hh : Y.2.2.2.2 = h0 :: hs) (hy : plainName Y.1.cls = true) (hn : (lg_sl av).length ≤ Y.2.2.1) (hls : zent av Y.2.2.1 = ls) (h : zW (l, E, d, mc, ms, Q, QX) Y 0 ls [] X 0 0) : zM l E d Y av X mc ms Q QX := by
  have hz : zws Y = wsW_ Y.1 Y.2.1 Y.2.2.1 Y.2.2.2.1 (h0 :: hs) := by unfold zws; rw [hh]
  unfold zM
  rw [hz]
  refine zx_ofWH hy rfl ?_
  intro p e s m args below meth c s₁ B hml hv
  obtain ⟨rfl, hRS, hRH⟩ := hv
  have hts0 := atoms_spec (ws := wsW_ Y.1 Y.2.1 Y.2.2.1 Y.2.2.2.1 (h0 :: hs)) B.pre
  have hts : ∀ w ∈ lw_all, w.before _ s = true := fun w h => hts0 w (List.mem_cons_of_mem _ h)
  have hx0 : c.exceptionTable.toList = tableOf Y.2.2.2.2 := by
    rw [hh]
    exact zx_table (x := Y.1) B (hts0 _ List.mem_cons_self)
  have := h p e s m av.toArray below meth c s.heap [] ((lg_sl av ++ List.replicate (Y.2.2.1 - (lg_sl av).length) Slot.unset).toArray) ⟨B.exec, B.bytes, B.returns, hml, findClass_of_methodNamed B.named, hts, B.notSynchronized, (name_of_methodNamed B.named B.method).1, hx0, hRS⟩ hRH (fun q h => by cases h) (zent_L hn hls)
  rw [lg_entry_eq]
  exact this
end ZC1
section ZC2
variable {V : zV} {Y : zY} {pc : Nat}
/-- ends -/
def oRI (V : zV) : zK := fun _ st X k n => match st with
  | [.int v] => V.2.2.2.2.2.1 (some (.int v)) X ∧ k ≤ V.2.2.2.1 ∧ n ≤ V.2.2.2.2.1
  | _ => False
def oRZ (V : zV) : zK := fun _ st X k n => match st with
  | [.int v] => (v = nI 0 ∨ v = nI 1) ∧ V.2.2.2.2.2.1 (some (.int v)) X ∧ k ≤ V.2.2.2.1 ∧ n ≤ V.2.2.2.2.1
  | _ => False
def oRL (V : zV) : zK := fun _ st X k n => match st with
  | [.long v] => V.2.2.2.2.2.1 (some (.long v)) X ∧ k ≤ V.2.2.2.1 ∧ n ≤ V.2.2.2.2.1
  | _ => False
def oRA (V : zV) : zK := fun _ st X k n => match st with
  | [.ref v] => V.2.2.2.2.2.1 (some (.ref v)) X ∧ k ≤ V.2.2.2.1 ∧ n ≤ V.2.2.2.2.1
  | [.null] => V.2.2.2.2.2.1 (some .null) X ∧ k ≤ V.2.2.2.1 ∧ n ≤ V.2.2.2.2.1
  | _ => False
def oRV (V : zV) : zK := fun _ st X k n => match st with
  | [] => V.2.2.2.2.2.1 none X ∧ k ≤ V.2.2.2.1 ∧ n ≤ V.2.2.2.2.1
  | _ => False
theorem k_ireturn (hr : Y.2.2.2.1 = some .int) (hd : decode Y.2.1 pc = .ok (.ireturn, 1)) : ∀ ls st X k n, oRI V ls st X k n → zW V Y pc ls st X k n := by
  intro ls st X k n h p e s m args below meth c H locs lsA hF hR hq hL
  unfold oRI at h
  split at h
  · obtain ⟨h0, h1, h2⟩ := h
    exact zx_ret (W.widen h1 h2 (W.iret hF.1 hF.2.1 (hF.2.2.1.trans hr) (fun t ht _ => ⟨_, X, rfl, h0, by rw [ht]; exact hR⟩) hq hd hF.2.2.2.2.2.2.1))
  · exact h.elim
theorem k_zreturn (hr : Y.2.2.2.1 = some .boolean) (hd : decode Y.2.1 pc = .ok (.ireturn, 1)) : ∀ ls st X k n, oRZ V ls st X k n → zW V Y pc ls st X k n := by
  intro ls st X k n h p e s m args below meth c H locs lsA hF hR hq hL
  unfold oRZ at h
  split at h
  · obtain ⟨hv, h0, h1, h2⟩ := h
    exact zx_ret (W.widen h1 h2 (W.zret hF.1 hF.2.1 (hF.2.2.1.trans hr) (by rcases hv with rfl | rfl <;> rfl) (fun t ht _ => ⟨_, X, rfl, h0, by rw [ht]; exact hR⟩) hq hd hF.2.2.2.2.2.2.1))
  · exact h.elim
theorem k_xreturn {ty : FieldType} {ok : Int32 → Prop} (hok : ∀ v, ok v → narrow ty (.int v) = .int v) (hr : Y.2.2.2.1 = some ty) (hd : decode Y.2.1 pc = .ok (.ireturn, 1)) : ∀ ls st X k n, (match st with | [.int v] => ok v ∧ V.2.2.2.2.2.1 (some (.int v)) X ∧ k ≤ V.2.2.2.1 ∧ n ≤ V.2.2.2.2.1 | _ => False) → zW V Y pc ls st X k n := by
  intro ls st X k n h p e s m args below meth c H locs lsA hF hR hq hL
  split at h
  · obtain ⟨hv, h0, h1, h2⟩ := h
    exact zx_ret (W.widen h1 h2 (W.zret hF.1 hF.2.1 (hF.2.2.1.trans hr) (hok _ hv) (fun t ht _ => ⟨_, X, rfl, h0, by rw [ht]; exact hR⟩) hq hd hF.2.2.2.2.2.2.1))
  · exact h.elim
theorem k_lreturn (hr : Y.2.2.2.1 = some .long) (hd : decode Y.2.1 pc = .ok (.lreturn, 1)) : ∀ ls st X k n, oRL V ls st X k n → zW V Y pc ls st X k n := by
  intro ls st X k n h p e s m args below meth c H locs lsA hF hR hq hL
  unfold oRL at h
  split at h
  · obtain ⟨h0, h1, h2⟩ := h
    exact zx_ret (W.widen h1 h2 (W.lret hF.1 hF.2.1 (hF.2.2.1.trans hr) (fun t ht _ => ⟨_, X, rfl, h0, by rw [ht]; exact hR⟩) hq hd hF.2.2.2.2.2.2.1))
  · exact h.elim
theorem k_areturn {rt : FieldType} (hr : Y.2.2.2.1 = some rt) (hrt : (∃ n, rt = .object n) ∨ ∃ t, rt = .array t) (hd : decode Y.2.1 pc = .ok (.areturn, 1)) : ∀ ls st X k n, oRA V ls st X k n → zW V Y pc ls st X k n := by
  intro ls st X k n h p e s m args below meth c H locs lsA hF hR hq hL
  unfold oRA at h
  split at h
  · obtain ⟨h0, h1, h2⟩ := h
    exact zx_ret (W.widen h1 h2 (W.aret hF.1 hF.2.1 (hF.2.2.1.trans hr) hrt (Or.inr ⟨_, rfl⟩) (fun t ht _ => ⟨_, X, rfl, h0, by rw [ht]; exact hR⟩) hq hd hF.2.2.2.2.2.2.1))
  · obtain ⟨h0, h1, h2⟩ := h
    exact zx_ret (W.widen h1 h2 (W.aret hF.1 hF.2.1 (hF.2.2.1.trans hr) hrt (Or.inl rfl) (fun t ht _ => ⟨_, X, rfl, h0, by rw [ht]; exact hR⟩) hq hd hF.2.2.2.2.2.2.1))
  · exact h.elim
theorem k_return (hr : Y.2.2.2.1 = none) (hd : decode Y.2.1 pc = .ok (.return_, 1)) : ∀ ls st X k n, oRV V ls st X k n → zW V Y pc ls st X k n := by
  intro ls st X k n h p e s m args below meth c H locs lsA hF hR hq hL
  unfold oRV at h
  split at h
  · obtain ⟨h0, h1, h2⟩ := h
    exact zx_ret (W.widen h1 h2 (W.vret hF.1 hF.2.1 (hF.2.2.1.trans hr) (fun t ht _ => ⟨_, X, rfl, h0, by rw [ht]; exact hR⟩) hq hd hF.2.2.2.2.2.2.1))
  · exact h.elim
/-- what becomes of a throw at pc -/
def zTh (V : zV) (Y : zY) (pc : Nat) (KX : List (Option Value) → Nat → zX → Nat → Nat → Prop) : Prop :=
  ∀ ls q X k n, KX ls q X k n → ∀ (p : Program) (e : Env) (s : State) (m : MethodId) (args : Array Value) (below : List Frame) (meth : Method) (c : Code) (H : Heap) (locs : List Loc) (lsA : Array Slot) (rest : List Value) (ce : Cell),
    zF V.2.1 Y p s m args meth c → zRH V.2.1 X H → (∀ q ∈ locs, V.2.1.2.2.1.size ≤ q.base) → zL lsA Y.2.2.1 ls → H[q]? = some ce → ce.vm = .none → s.vm.findClass RX1 = some ce.cls →
    zx_W p V.1 e (zroom V.2.2.1 V.2.2.2.1 V.2.2.2.2.1) s m args below meth c H locs k n (zx_MQ below (zQc V.2.1 V.2.2.2.2.2.1) (zXc V.2.1 V.2.2.2.2.2.2) args s V.2.2.2.1 V.2.2.2.2.1 (fun q => V.2.1.2.2.1.size ≤ q)) (F0 m pc lsA rest) q
/-- no handlers: it goes on to the caller -/
def zOut (V : zV) : List (Option Value) → Nat → zX → Nat → Nat → Prop := fun _ q X k n => V.2.2.2.2.2.2 q X ∧ k ≤ V.2.2.2.1 ∧ n ≤ V.2.2.2.2.1
theorem zTh_out (hh : Y.2.2.2.2 = []) : zTh V Y pc (zOut V) := by
  intro ls q X k n h p e s m args below meth c H locs lsA rest ce hF hR hq hL hce hcv hcl
  obtain ⟨h0, h1, h2⟩ := h
  refine zx_out ?_ hF.2.2.2.2.2.2.1 hce hcv hcl (fun t ht _ => ⟨rfl, X, h0, by rw [ht]; exact hR⟩) hq h1 h2
  intro x hx
  rw [hF.2.2.2.2.2.2.2.2.1, hh] at hx
  cases hx
def oThrow (V : zV) : zK := fun ls st X k n => match st with
  | .ref q :: _ => zt X.2.1 q = 21 ∧ zOut V ls q X k n
  | _ => False
theorem k_athrow (hh : Y.2.2.2.2 = []) (hd : decode Y.2.1 pc = .ok (.athrow, 1)) : ∀ ls st X k n, oThrow V ls st X k n → zW V Y pc ls st X k n := by
  intro ls st X k n h p e s m args below meth c H locs lsA hF hR hq hL
  unfold oThrow at h
  split at h
  · next q r =>
    obtain ⟨ht, h⟩ := h
    obtain ⟨⟨cell, q1, q2, q3, q4⟩, hs⟩ := zobj hR zc1 (show zt X.2.1 q = 20 + 1 from ht)
    have hfc := (hF.2.2.2.2.2.2.2.2.2.1.1 1 _ zc1.1).2.1
    exact zx_athrow hF.1 hF.2.1 hd (zTh_out hh ls q X k n h p e s m args below meth c H locs lsA r cell hF hR hq hL q1 q3 (by rw [q2]; exact hfc))
  · exact h.elim
/-- a call has run -/
theorem z_run {p : Program} {e : Env} {s : State} {m : MethodId} {args : Array Value} {below : List Frame} {meth : Method} {c : Code} {H : Heap} {locs : List Loc} {lsA : Array Slot} {st rest : List Value} {av : Array Value} {k n mc ms : Nat} {Q : Option Value → zX → Prop} {QX : Nat → zX → Prop} {ls : List (Option Value)} {K : zK} {KX : List (Option Value) → Nat → zX → Nat → Nat → Prop}
    (hr : zx_Run p V.1 e (zroom V.2.2.1 V.2.2.2.1 V.2.2.2.2.1) s m args below meth c H locs k n mc ms (F0 m pc lsA st) rest (zQc V.2.1 Q av) (zXc V.2.1 QX) (fun q => V.2.1.2.2.1.size ≤ q))
    (hF : zF V.2.1 Y p s m args meth c) (hq : ∀ q ∈ locs, V.2.1.2.2.1.size ≤ q.base) (hL : zL lsA Y.2.2.1 ls)
    (hK : ∀ ls st X k n, K ls st X k n → zW V Y (pc + 3) ls st X k n) (hT : zTh V Y pc KX)
    (h1 : ∀ r X', Q r X' → K ls (r.toList ++ rest) X' (k + mc) (n + ms)) (h2 : ∀ q X', QX q X' → KX ls q X' (k + mc) (n + ms)) :
    W p V.1 e (zroom V.2.2.1 V.2.2.2.1 V.2.2.2.2.1) s m args below meth c H locs k n (zx_MQ below (zQc V.2.1 V.2.2.2.2.2.1) (zXc V.2.1 V.2.2.2.2.2.2) args s V.2.2.2.1 V.2.2.2.2.1 (fun q => V.2.1.2.2.1.size ≤ q)) (F0 m pc lsA st) := by
  intro T hT0 X0
  rcases hr T hT0 X0 with ⟨v, st₀, t, T', L, h0, X', hL', e1, e2, ⟨r, X1, hv, hQ, hRH⟩, st'⟩ | ⟨q, st₀, t, T', L, EC, ce, h0, X', hL', e1, e2, ⟨hEC, X1, hQ, hRH⟩, hce, hcv, hcl, st'⟩
  · cases hv
    obtain ⟨t2, a1, b1⟩ := hK _ _ _ _ _ (h1 v X1 hQ) p e s m args below meth c T'.heap (locs ++ L) lsA hF (by rw [e1]; exact hRH) (t_lL hq hL') hL T' rfl X'
    exact ⟨t2, st' t2 a1, b1⟩
  · subst hEC
    obtain ⟨t2, a1, b1⟩ := hT _ _ _ _ _ (h2 q X1 hQ) p e s m args below meth c T'.heap (locs ++ L) lsA rest ce hF (by rw [e1]; exact hRH) (t_lL hq hL') hL (by rw [e1]; exact hce) hcv hcl T' rfl X'
    exact ⟨t2, st'.trans a1, b1⟩
theorem z_sum {r : List Value} (h : r.length ≤ 4) : (r.map fun v => v.category).sum ≤ 8 := by
  have : ∀ l : List Value, (l.map fun v => v.category).sum ≤ 2 * l.length := by
    intro l
    induction l with
    | nil => simp
    | cons v l ih => rcases lv_cat v with h | h <;> simp [h] <;> omega
  have := this r
  omega
def zmV (Y : zY) (C : String) (na : Nat) : Prop := Cond.instanceMethod Y.1 ∈ lw_all ∧ Cond.selects C Y.1 Y.1 ∈ lw_all ∧ Cond.initialized C ∈ lw_all ∧ Cond.code Y.1 Y.2.1 Y.2.2.1 Y.2.2.2.1 ∈ lw_all ∧ (Y.1.cls = C ∧ Y.1.cls ≠ "java/lang/invoke/MethodHandle" ∧ Y.1.cls ≠ "java/lang/invoke/VarHandle" ∧ (parseMethodDescriptor Y.1.desc).map (fun d => d.parameters.length) = some na) ∧ Y.2.2.1 ≤ 45 ∧ Y.2.2.2.2 = []
def zmS (Y : zY) (na : Nat) : Prop := Cond.static Y.1 ∈ lw_all ∧ Cond.initialized Y.1.cls ∈ lw_all ∧ Cond.code Y.1 Y.2.1 Y.2.2.1 Y.2.2.2.1 ∈ lw_all ∧ (Y.1.cls ≠ "java/lang/invoke/MethodHandle" ∧ Y.1.cls ≠ "java/lang/invoke/VarHandle" ∧ (parseMethodDescriptor Y.1.desc).map (fun d => d.parameters.length) = some na) ∧ Y.2.2.1 ≤ 45 ∧ Y.2.2.2.2 = []
def zmI (Y : zY) (na : Nat) : Prop := Cond.instanceMethod Y.1 ∈ lw_all ∧ Cond.initialized Y.1.cls ∈ lw_all ∧ Cond.code Y.1 Y.2.1 Y.2.2.1 Y.2.2.2.1 ∈ lw_all ∧ (Y.1.cls ≠ "java/lang/invoke/MethodHandle" ∧ Y.1.cls ≠ "java/lang/invoke/VarHandle" ∧ (parseMethodDescriptor Y.1.desc).map (fun d => d.parameters.length) = some na) ∧ (Y.1.name = "<init>" ∧ Y.2.2.2.1 = none) ∧ Y.2.2.1 ≤ 45 ∧ Y.2.2.2.2 = []
/-- what the frame does with a call: the receiver b -/
def oCV (V : zV) (Y' : zY) (c na : Nat) (KX : List (Option Value) → Nat → zX → Nat → Nat → Prop) (K : zK) : zK := fun ls st X k n => match st.drop na with
  | .ref b :: r => zt X.2.1 b = 20 + c ∧ r.length ≤ 4 ∧ (st.take na).length = na ∧ zC V Y' (.ref b :: (st.take na).reverse) X k n (fun v X' k' n' => K ls (v.toList ++ r) X' k' n') (KX ls)
  | _ => False
def oCI (V : zV) (Y' : zY) (na : Nat) (KX : List (Option Value) → Nat → zX → Nat → Nat → Prop) (K : zK) : zK := fun ls st X k n => match st.drop na with
  | .ref b :: r => r.length ≤ 4 ∧ (st.take na).length = na ∧ zC V Y' (.ref b :: (st.take na).reverse) X k n (fun v X' k' n' => K ls (v.toList ++ r) X' k' n') (KX ls)
  | _ => False
def oCS (V : zV) (Y' : zY) (na : Nat) (KX : List (Option Value) → Nat → zX → Nat → Nat → Prop) (K : zK) : zK := fun ls st X k n =>
  (st.drop na).length ≤ 4 ∧ (st.take na).length = na ∧ zC V Y' ((st.take na).reverse) X k n (fun v X' k' n' => K ls (v.toList ++ st.drop na) X' k' n') (KX ls)
theorem z_recv {p : Program} {s : State} {m : MethodId} {args : Array Value} {meth : Method} {co : Code} {X : zX} {H : Heap} {b c : Nat} {C : String} {T : u_T} {N : Nat} (hF : zF V.2.1 Y p s m args meth co) (hR : zRH V.2.1 X H) (hc : zcf c C T N) (ht : zt X.2.1 b = 20 + c) : ∃ cellB : Cell, H[b]? = some cellB ∧ cellB.vm.isStatics = false ∧ s.vm.findClass C = some cellB.cls := by
  obtain ⟨⟨cell, q1, q2, q3, q4⟩, hs⟩ := zobj hR hc ht
  have hfc := (hF.2.2.2.2.2.2.2.2.2.1.1 c _ hc.1).2.1
  exact ⟨cell, q1, by rw [q3]; rfl, by rw [q2]; exact hfc⟩
theorem k_callV {Y' : zY} {c na index : Nat} {C : String} {T : u_T} {N : Nat} {KX : List (Option Value) → Nat → zX → Nat → Nat → Prop} (hT : zTh V Y pc KX) (hc : zcf c C T N) (hm : zmV Y' C na) (hlk : Cond.methodLink Y.1.cls index Y'.1 ∈ lw_all) (hd : decode Y.2.1 pc = .ok (.invokevirtual index, 3)) : zStep V Y pc (oCV V Y' c na KX) (pc + 3) := by
  intro K hK ls st X k n h p e s m args below meth co H locs lsA hF hR hq hL
  unfold oCV at h
  split at h
  · next b r hdr =>
    obtain ⟨ht, hr, hta, d0, mc0, ms0, Q0, QX0, hM, hdd, hk, hn, h1, h2⟩ := h
    obtain ⟨m1, m2, m3, m4, m5, m6, m7⟩ := hm
    unfold zM at hM
    rw [zwsN m7] at hM
    obtain ⟨hx, hb, hrt, hml, hown, hts, hlk0, hnm, hxt, hRS⟩ := id hF
    have hst : st = st.take na ++ .ref b :: r := by rw [← hdr, List.take_append_drop]
    exact z_run (zx_runV (As := (st.take na).reverse) (rest := r) ⟨hx, hb, hml, hown, hts⟩ hM (cwV na hts (lw_V hlk m1 m2 m3 m4) rfl rfl rfl m5 ⟨hdd, by show 8 + (Y'.2.2.1 + 11) + 64 * d0 ≤ 64 * V.2.2.1; omega⟩)
      ⟨zblind, z_recv hF hR hc ht, fun U hU hW => ⟨rfl, hRS.warm hW, by rw [hU]; exact hR⟩⟩ rfl (by rw [List.length_reverse]; exact hta) hL.1 (by rw [List.reverse_reverse]; exact hst) (lv_room (z_sum hr)) hd ⟨hk, hn⟩) hF hq hL hK hT h1 h2
  · exact h.elim
theorem k_callS {Y' : zY} {na index : Nat} {KX : List (Option Value) → Nat → zX → Nat → Nat → Prop} (hT : zTh V Y pc KX) (hm : zmS Y' na) (hlk : Cond.methodLink Y.1.cls index Y'.1 ∈ lw_all) (hd : decode Y.2.1 pc = .ok (.invokestatic index, 3)) : zStep V Y pc (oCS V Y' na KX) (pc + 3) := by
  intro K hK ls st X k n h p e s m args below meth co H locs lsA hF hR hq hL
  obtain ⟨hr, hta, d0, mc0, ms0, Q0, QX0, hM, hdd, hk, hn, h1, h2⟩ := h
  obtain ⟨m1, m2, m3, m5, m6, m7⟩ := hm
  unfold zM at hM
  rw [zwsN m7] at hM
  obtain ⟨hx, hb, hrt, hml, hown, hts, hlk0, hnm, hxt, hRS⟩ := id hF
  exact z_run (zx_runS (As := (st.take na).reverse) (rest := st.drop na) ⟨hx, hb, hml, hown, hts⟩ hM (va_cwS na hts (lw_S hlk m1 m2 m3) rfl rfl rfl m5 ⟨hdd, by show 8 + (Y'.2.2.1 + 11) + 64 * d0 ≤ 64 * V.2.2.1; omega⟩)
    ⟨zblind, fun U hU hW => ⟨rfl, hRS.warm hW, by rw [hU]; exact hR⟩⟩ rfl (by rw [List.length_reverse]; exact hta) hL.1 (by rw [List.reverse_reverse, List.take_append_drop]) (lv_room (z_sum hr)) hd ⟨hk, hn⟩) hF hq hL hK hT h1 h2
theorem k_callSN {Y' : zY} {na index : Nat} {host : String} {KX : List (Option Value) → Nat → zX → Nat → Nat → Prop} (hT : zTh V Y pc KX) (hm : zmS Y' na) (hlk : Cond.methodLinkNest Y.1.cls index Y'.1 host ∈ lw_tbl) (hd : decode Y.2.1 pc = .ok (.invokestatic index, 3)) : zStep V Y pc (oCS V Y' na KX) (pc + 3) := by
  intro K hK ls st X k n h p e s m args below meth co H locs lsA hF hR hq hL
  obtain ⟨hr, hta, d0, mc0, ms0, Q0, QX0, hM, hdd, hk, hn, h1, h2⟩ := h
  obtain ⟨m1, m2, m3, m5, m6, m7⟩ := hm
  unfold zM at hM
  rw [zwsN m7] at hM
  obtain ⟨hx, hb, hrt, hml, hown, hts, hlk0, hnm, hxt, hRS⟩ := id hF
  exact z_run (zx_runSN (As := (st.take na).reverse) (rest := st.drop na) ⟨hx, hb, hml, hown, hts⟩ hM ⟨va_cnB na hts (lw_meth m3) rfl rfl rfl (hRS.2.1 _ (List.mem_filter.mpr ⟨hlk, rfl⟩)) (hts _ m2) m5 ⟨hdd, by show 8 + (Y'.2.2.1 + 11) + 64 * d0 ≤ 64 * V.2.2.1; omega⟩, hts _ m1, trivial⟩
    ⟨zblind, fun U hU hW => ⟨rfl, hRS.warm hW, by rw [hU]; exact hR⟩⟩ rfl (by rw [List.length_reverse]; exact hta) hL.1 (by rw [List.reverse_reverse, List.take_append_drop]) (lv_room (z_sum hr)) hd ⟨hk, hn⟩) hF hq hL hK hT h1 h2
theorem k_callI {Y' : zY} {na index : Nat} {KX : List (Option Value) → Nat → zX → Nat → Nat → Prop} (hT : zTh V Y pc KX) (hm : zmI Y' na) (hlk : Cond.methodLink Y.1.cls index Y'.1 ∈ lw_all) (hd : decode Y.2.1 pc = .ok (.invokespecial index, 3)) : zStep V Y pc (oCI V Y' na KX) (pc + 3) := by
  intro K hK ls st X k n h p e s m args below meth co H locs lsA hF hR hq hL
  unfold oCI at h
  split at h
  · next b r hdr =>
    obtain ⟨hr, hta, d0, mc0, ms0, Q0, QX0, hM, hdd, hk, hn, h1, h2⟩ := h
    obtain ⟨m1, m2, m3, m5, ⟨m8, m9⟩, m6, m7⟩ := hm
    unfold zM at hM
    rw [zwsN m7] at hM
    rw [m9] at hM m3
    obtain ⟨hx, hb, hrt, hml, hown, hts, hlk0, hnm, hxt, hRS⟩ := id hF
    have hst : st = st.take na ++ .ref b :: r := by rw [← hdr, List.take_append_drop]
    exact z_run (zx_runI (As := (st.take na).reverse) (rest := r) ⟨hx, hb, hml, hown, hts⟩ hM (cwI na hts (lw_meth m3) rfl rfl rfl (hts _ m2) (hts _ hlk) (hts _ m1) m8 m5 ⟨hdd, by show 8 + (Y'.2.2.1 + 11) + 64 * d0 ≤ 64 * V.2.2.1; omega⟩)
      ⟨zblind, fun U hU hW => ⟨rfl, hRS.warm hW, by rw [hU]; exact hR⟩⟩ rfl (by rw [List.length_reverse]; exact hta) hL.1 (by rw [List.reverse_reverse]; exact hst) (lv_room (z_sum hr)) hd ⟨hk, hn⟩) hF hq hL hK hT h1 h2
  · exact h.elim
theorem k_callIN {Y' : zY} {na index : Nat} {host : String} {KX : List (Option Value) → Nat → zX → Nat → Nat → Prop} (hT : zTh V Y pc KX) (hm : zmI Y' na) (hlk : Cond.methodLinkNest Y.1.cls index Y'.1 host ∈ lw_tbl) (hd : decode Y.2.1 pc = .ok (.invokespecial index, 3)) : zStep V Y pc (oCI V Y' na KX) (pc + 3) := by
  intro K hK ls st X k n h p e s m args below meth co H locs lsA hF hR hq hL
  unfold oCI at h
  split at h
  · next b r hdr =>
    obtain ⟨hr, hta, d0, mc0, ms0, Q0, QX0, hM, hdd, hk, hn, h1, h2⟩ := h
    obtain ⟨m1, m2, m3, m5, ⟨m8, m9⟩, m6, m7⟩ := hm
    unfold zM at hM
    rw [zwsN m7] at hM
    rw [m9] at hM m3
    obtain ⟨hx, hb, hrt, hml, hown, hts, hlk0, hnm, hxt, hRS⟩ := id hF
    have hst : st = st.take na ++ .ref b :: r := by rw [← hdr, List.take_append_drop]
    exact z_run (zx_runIN (As := (st.take na).reverse) (rest := r) ⟨hx, hb, hml, hown, hts⟩ hM ⟨va_cnB na hts (lw_meth m3) rfl rfl rfl (hRS.2.1 _ (List.mem_filter.mpr ⟨hlk, rfl⟩)) (hts _ m2) m5 ⟨hdd, by show 8 + (Y'.2.2.1 + 11) + 64 * d0 ≤ 64 * V.2.2.1; omega⟩, m8, hts _ m1⟩
      ⟨zblind, fun U hU hW => ⟨rfl, hRS.warm hW, by rw [hU]; exact hR⟩⟩ rfl (by rw [List.length_reverse]; exact hta) hL.1 (by rw [List.reverse_reverse]; exact hst) (lv_room (z_sum hr)) hd ⟨hk, hn⟩) hF hq hL hK hT h1 h2
  · exact h.elim
/-- Object's constructor -/
def oObj (K : zK) : zK := fun ls st X k n => match st with
  | .ref _ :: r => r.length ≤ 4 ∧ K ls r X k n
  | _ => False
theorem k_objI {index : Nat} (hlk : Cond.methodLink Y.1.cls index objectInit ∈ lw_all) (h1 : Cond.instanceMethod objectInit ∈ lw_all) (h2 : Cond.code objectInit ⟨#[0xb1]⟩ 1 none ∈ lw_all) (hV : 1 ≤ V.2.2.1) (hd : decode Y.2.1 pc = .ok (.invokespecial index, 3)) : zStep V Y pc oObj (pc + 3) := by
  intro K hK ls st X k n h p e s m args below meth co H locs lsA hF hR hq hL
  unfold oObj at h
  split at h
  · next b r =>
    obtain ⟨hr, h⟩ := h
    obtain ⟨hx, hb, hrt, hml, hown, hts, hlk0, hnm, hxt, hRS⟩ := id hF
    exact W.objInit hx hb hown (hts _ hlk) (hts _ h1) (hts _ h2) rfl (by rw [hml]; exact hL.1) rfl hd hV (by show 2 * 0 + _ + 12 ≤ 64 * V.2.2.1; have := z_sum hr; omega) (hK _ _ _ _ _ h p e s m args below meth co H locs lsA hF hR hq hL)
  · exact h.elim
end ZC2
