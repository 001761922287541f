/-! z-layer, 4: ops on the heap -/
theorem zfitR {c f : Nat} (hk : refKind (zfty c f) = true) (v : Option Nat) : narrow (zfty c f) (va_rf v) = va_rf v ∧ fits (zfty c f) (va_rf v) = true := by
  cases h : zfty c f <;> rw [h] at hk <;> first | (cases hk; done) | (cases v <;> exact ⟨rfl, rfl⟩)
section ZB
variable {V : zV} {Y : zY} {pc : Nat}
theorem zobj {E : zE} {X : zX} {H : Heap} {a c : Nat} {C : String} {T : u_T} {N : Nat} (hR : zRH E X H) (hc : zcf c C T N) (ht : zt X.2.1 a = 20 + c) : t_OB a (E.1.1 c) N (E.1.2 c) H (zfv c (zr X.2.1 a) (X.2.2.1 a)) ∧ X.2.1 a = some (20 + c, zn X.2.1 a, zr X.2.1 a) := by
  have hlen : c < 21 := by
    have := (List.getElem?_eq_some_iff.mp hc.1).1
    exact this
  have hs := zt_some ht (by omega)
  obtain ⟨r, h1, h2⟩ := (hR.2.1 a _ hs).2.2.2.2.2 (by simp)
  simp only [Nat.add_sub_cancel_left] at h1 h2
  cases Option.some.inj (h1.symm.trans hc.1)
  exact ⟨h2, hs⟩
def oGI (c f : Nat) (K : zK) : zK := fun ls st X k n => match st with
  | .ref a :: r => zt X.2.1 a = 20 + c ∧ K ls (.int (X.2.2.1 a f) :: r) X k n
  | _ => False
def oGR (c f : Nat) (K : zK) : zK := fun ls st X k n => match st with
  | .ref a :: r => zt X.2.1 a = 20 + c ∧ K ls (va_rf (zr X.2.1 a f) :: r) X k n
  | _ => False
def zsf (ref : String) (T : u_T) (f : Nat) : Prop := ∀ (s : State) (args : Array Value), (∀ w ∈ lw_all, w.before args s = true) → ∀ x, s.fieldFound? (T f).1 (T f).2.1 (T f).2.2.1 = some x → s.fieldFound? ref (T f).2.1 (T f).2.2.1 = some x
theorem zsf_id {ref : String} {T : u_T} {f : Nat} (h : (T f).1 = ref) : zsf ref T f := by
  intro s args _ x hx
  rw [← h]; exact hx
theorem k_getI {c f index : Nat} {own ref C : String} {T : u_T} {N : Nat} (hc : zcf c C T N) (hf : f < N) (ho : Y.1.cls = own) (hlink : Cond.fieldLink own index ref (T f).2.1 (T f).2.2.1 ∈ lw_all) (hsame : zsf ref T f) (hk : refKind (zfty c f) = false) (hd : decode Y.2.1 pc = .ok (.getfield index, 3)) : zStep V Y pc (oGI c f) (pc + 3) := by
  intro K hK ls st X k n h p e s m args below meth co H locs lsA hF hR hq hL
  subst ho
  unfold oGI at h
  split at h
  · next a r =>
    obtain ⟨ht, h⟩ := h
    obtain ⟨hob, hs⟩ := zobj hR hc ht
    obtain ⟨cell, q1, q2, q3, q4⟩ := hob
    obtain ⟨hx, hb, hr, hml, hown, hts, hlk, hnm, hxt, hRS⟩ := id hF
    obtain ⟨hS, hfc, kC, hkC, hkind⟩ := hRS.1.1 c _ hc.1
    obtain ⟨cf, kf, fi, fd, hi, hsl⟩ := hS f hf
    refine W.getf hx hb hown (hts _ hlink) (hsame s args hts _ hi) (u_facts hfc hkC (u_lays hts hc.2.1 hf) hi).1 q1 (by rw [q3]; exact fun h => by cases h) (v := .int (X.2.2.1 a f)) ?_ rfl rfl hd (hK _ _ _ _ _ h p e s m args below meth co H locs lsA hF hR hq hL)
    rw [hsl, q4 f hf]
    simp [zfv, hk]
  · exact h.elim
theorem k_getR {c f index : Nat} {own ref C : String} {T : u_T} {N : Nat} (hc : zcf c C T N) (hf : f < N) (ho : Y.1.cls = own) (hlink : Cond.fieldLink own index ref (T f).2.1 (T f).2.2.1 ∈ lw_all) (hsame : zsf ref T f) (hk : refKind (zfty c f) = true) (hd : decode Y.2.1 pc = .ok (.getfield index, 3)) : zStep V Y pc (oGR c f) (pc + 3) := by
  intro K hK ls st X k n h p e s m args below meth co H locs lsA hF hR hq hL
  subst ho
  unfold oGR at h
  split at h
  · next a r =>
    obtain ⟨ht, h⟩ := h
    obtain ⟨hob, hs⟩ := zobj hR hc ht
    obtain ⟨cell, q1, q2, q3, q4⟩ := hob
    obtain ⟨hx, hb, hr, hml, hown, hts, hlk, hnm, hxt, hRS⟩ := id hF
    obtain ⟨hS, hfc, kC, hkC, hkind⟩ := hRS.1.1 c _ hc.1
    obtain ⟨cf, kf, fi, fd, hi, hsl⟩ := hS f hf
    refine W.getf hx hb hown (hts _ hlink) (hsame s args hts _ hi) (u_facts hfc hkC (u_lays hts hc.2.1 hf) hi).1 q1 (by rw [q3]; exact fun h => by cases h) (v := va_rf (zr X.2.1 a f)) ?_ rfl rfl hd (hK _ _ _ _ _ h p e s m args below meth co H locs lsA hF hR hq hL)
    rw [hsl, q4 f hf]
    simp [zfv, hk]
  · exact h.elim
def oPI (c f : Nat) (ok : Int32 → Prop) (K : zK) : zK := fun ls st X k n => match st with
  | .int x :: .ref a :: r => zt X.2.1 a = 20 + c ∧ ok x ∧ K ls r (X.1, X.2.1, zu X.2.2.1 a f x, X.2.2.2) k n
  | _ => False
def oPR (c f : Nat) (K : zK) : zK := fun ls st X k n => match st with
  | .ref x :: .ref a :: r => zt X.2.1 a = 20 + c ∧ K ls r (X.1, zur X.2.1 a f (some x), X.2.2.1, X.2.2.2) k n
  | .null :: .ref a :: r => zt X.2.1 a = 20 + c ∧ K ls r (X.1, zur X.2.1 a f none, X.2.2.1, X.2.2.2) k n
  | _ => False
theorem k_putI {c f index : Nat} {ref C : String} {T : u_T} {N : Nat} (hc : zcf c C T N) (hf : f < N) (hlink : Cond.fieldLink Y.1.cls index ref (T f).2.1 (T f).2.2.1 ∈ lw_all) (hsame : zsf ref T f) (hfin : (T f).2.2.2 = false) {ok : Int32 → Prop} (hok : ∀ x, ok x → narrow (zfty c f) (.int x) = .int x ∧ fits (zfty c f) (.int x) = true) (hk : refKind (zfty c f) = false) (hd : decode Y.2.1 pc = .ok (.putfield index, 3)) : zStep V Y pc (oPI c f ok) (pc + 3) := by
  intro K hK ls st X k n h p e s m args below meth co H locs lsA hF hR hq hL
  unfold oPI at h
  split at h
  · next x a r =>
    obtain ⟨ht, hx0, h⟩ := h
    obtain ⟨hob, hs⟩ := zobj hR hc ht
    obtain ⟨cell, q1, q2, q3, q4⟩ := hob
    obtain ⟨hx, hb, hr, hml, hown, hts, hlk, hnm, hxt, hRS⟩ := id hF
    have hap := va_apart (own := C) hts hc.2.1 (zfty c) hc.2.2.1 hc.2.2.2 hRS.1 hc.1
    obtain ⟨hS, hfc, kC, hkC, hkind⟩ := hRS.1.1 c _ hc.1
    obtain ⟨cf, kf, fi, fd, hi, hsl⟩ := hS f hf
    have hlay := hts _ (hc.2.1 _ (u_in_lay hf))
    unfold u_lay at hlay
    have hst := (u_facts hfc hkC (u_lays hts hc.2.1 hf) hi).1
    rw [if_neg (by rw [hfin]; decide)] at hlay
    have h6 := u_store hfc hkC hkind hlay hi (hc.2.2.1 f hf) (hok x hx0).1 (hok x hx0).2
    refine W.putK hx hb (f := fd) ⟨hown, hts _ hlink, ⟨_, _, _, hsame s args hts _ hi⟩, hst⟩ (by rw [q2]; exact h6) q1 q3 (by rw [hsl]; exact k2_hasslot (q4 f hf)) rfl rfl hd fun H' e1 e2 e3 => ?_
    rw [hsl] at e1 ⊢
    refine hK _ _ _ _ _ h p e s m args below meth co H' _ lsA hF (hR.seti hs e2 e3 ?_) (zlocs hq (hR.2.1 _ _ hs).1) hL
    refine ⟨fun t => absurd t (by simp; omega), fun t => absurd t (by simp; omega), fun t t2 => absurd t2 (by simp), fun _ => ⟨_, (by simp only [Nat.add_sub_cancel_left]; exact hc.1), ?_⟩⟩
    simp only [Nat.add_sub_cancel_left]
    refine t_OB.to (V := updV (zfv c (zr X.2.1 a) (X.2.2.1 a)) f (.int x)) ⟨_, e1, q2, q3, t_set q4 hap hf (.int x)⟩ (fun j _ => ?_)
    by_cases hj : j = f
    · subst hj; simp [updV, zfv, hk]
    · simp [updV, zfv, hj]
  · exact h.elim
theorem k_putR {c f index : Nat} {ref C : String} {T : u_T} {N : Nat} (hc : zcf c C T N) (hf : f < N) (hlink : Cond.fieldLink Y.1.cls index ref (T f).2.1 (T f).2.2.1 ∈ lw_all) (hsame : zsf ref T f) (hfin : (T f).2.2.2 = false) (hk : refKind (zfty c f) = true) (hd : decode Y.2.1 pc = .ok (.putfield index, 3)) : zStep V Y pc (oPR c f) (pc + 3) := by
  intro K hK ls st X k n h p e s m args below meth co H locs lsA hF hR hq hL
  unfold oPR at h
  split at h
  · next x a r =>
    obtain ⟨ht, h⟩ := h
    obtain ⟨hob, hs⟩ := zobj hR hc ht
    obtain ⟨cell, q1, q2, q3, q4⟩ := hob
    obtain ⟨hx, hb, hr, hml, hown, hts, hlk, hnm, hxt, hRS⟩ := id hF
    have hap := va_apart (own := C) hts hc.2.1 (zfty c) hc.2.2.1 hc.2.2.2 hRS.1 hc.1
    obtain ⟨hS, hfc, kC, hkC, hkind⟩ := hRS.1.1 c _ hc.1
    obtain ⟨cf, kf, fi, fd, hi, hsl⟩ := hS f hf
    have hlay := hts _ (hc.2.1 _ (u_in_lay hf))
    unfold u_lay at hlay
    have hst := (u_facts hfc hkC (u_lays hts hc.2.1 hf) hi).1
    rw [if_neg (by rw [hfin]; decide)] at hlay
    have h6 := u_store hfc hkC hkind hlay hi (hc.2.2.1 f hf) (zfitR hk (some x)).1 (zfitR hk (some x)).2
    refine W.putK hx hb (f := fd) ⟨hown, hts _ hlink, ⟨_, _, _, hsame s args hts _ hi⟩, hst⟩ (by rw [q2]; exact h6) q1 q3 (by rw [hsl]; exact k2_hasslot (q4 f hf)) rfl rfl hd fun H' e1 e2 e3 => ?_
    rw [hsl] at e1 ⊢
    refine hK _ _ _ _ _ h p e s m args below meth co H' _ lsA hF (hR.setr hs e2 e3 ?_) (zlocs hq (hR.2.1 _ _ hs).1) hL
    refine ⟨fun t => absurd t (by simp; omega), fun t => absurd t (by simp; omega), fun t t2 => absurd t2 (by simp), fun _ => ⟨_, (by simp only [Nat.add_sub_cancel_left]; exact hc.1), ?_⟩⟩
    simp only [Nat.add_sub_cancel_left]
    refine t_OB.to (V := updV (zfv c (zr X.2.1 a) (X.2.2.1 a)) f (.ref x)) ⟨_, e1, q2, q3, t_set q4 hap hf (.ref x)⟩ (fun j _ => ?_)
    by_cases hj : j = f
    · subst hj; simp [updV, zfv, hk, va_up, va_rf]
    · simp [updV, zfv, hj, va_up]
  · next a r =>
    obtain ⟨ht, h⟩ := h
    obtain ⟨hob, hs⟩ := zobj hR hc ht
    obtain ⟨cell, q1, q2, q3, q4⟩ := hob
    obtain ⟨hx, hb, hr, hml, hown, hts, hlk, hnm, hxt, hRS⟩ := id hF
    have hap := va_apart (own := C) hts hc.2.1 (zfty c) hc.2.2.1 hc.2.2.2 hRS.1 hc.1
    obtain ⟨hS, hfc, kC, hkC, hkind⟩ := hRS.1.1 c _ hc.1
    obtain ⟨cf, kf, fi, fd, hi, hsl⟩ := hS f hf
    have hlay := hts _ (hc.2.1 _ (u_in_lay hf))
    unfold u_lay at hlay
    have hst := (u_facts hfc hkC (u_lays hts hc.2.1 hf) hi).1
    rw [if_neg (by rw [hfin]; decide)] at hlay
    have h6 := u_store hfc hkC hkind hlay hi (hc.2.2.1 f hf) (zfitR hk none).1 (zfitR hk none).2
    refine W.putK hx hb (f := fd) ⟨hown, hts _ hlink, ⟨_, _, _, hsame s args hts _ hi⟩, hst⟩ (by rw [q2]; exact h6) q1 q3 (by rw [hsl]; exact k2_hasslot (q4 f hf)) rfl rfl hd fun H' e1 e2 e3 => ?_
    rw [hsl] at e1 ⊢
    refine hK _ _ _ _ _ h p e s m args below meth co H' _ lsA hF (hR.setr hs e2 e3 ?_) (zlocs hq (hR.2.1 _ _ hs).1) hL
    refine ⟨fun t => absurd t (by simp; omega), fun t => absurd t (by simp; omega), fun t t2 => absurd t2 (by simp), fun _ => ⟨_, (by simp only [Nat.add_sub_cancel_left]; exact hc.1), ?_⟩⟩
    simp only [Nat.add_sub_cancel_left]
    refine t_OB.to (V := updV (zfv c (zr X.2.1 a) (X.2.2.1 a)) f (.null)) ⟨_, e1, q2, q3, t_set q4 hap hf (.null)⟩ (fun j _ => ?_)
    by_cases hj : j = f
    · subst hj; simp [updV, zfv, hk, va_up, va_rf]
    · simp [updV, zfv, hj, va_up]
  · exact h.elim
theorem k_putIF {c f index : Nat} {ref C : String} {T : u_T} {N : Nat} (hc : zcf c C T N) (hf : f < N) (hlink : Cond.fieldLink Y.1.cls index ref (T f).2.1 (T f).2.2.1 ∈ lw_all) (hsame : zsf ref T f) (hfin : (T f).2.2.2 = true) (hini : Y.1.name = "<init>") (hdecl : (T f).1 = Y.1.cls) {ok : Int32 → Prop} (hok : ∀ x, ok x → narrow (zfty c f) (.int x) = .int x ∧ fits (zfty c f) (.int x) = true) (hk : refKind (zfty c f) = false) (hd : decode Y.2.1 pc = .ok (.putfield index, 3)) : zStep V Y pc (oPI c f ok) (pc + 3) := by
  intro K hK ls st X k n h p e s m args below meth co H locs lsA hF hR hq hL
  unfold oPI at h
  split at h
  · next x a r =>
    obtain ⟨ht, hx0, h⟩ := h
    obtain ⟨hob, hs⟩ := zobj hR hc ht
    obtain ⟨cell, q1, q2, q3, q4⟩ := hob
    obtain ⟨hx, hb, hr, hml, hown, hts, hlk, hnm, hxt, hRS⟩ := id hF
    have hap := va_apart (own := C) hts hc.2.1 (zfty c) hc.2.2.1 hc.2.2.2 hRS.1 hc.1
    obtain ⟨hS, hfc, kC, hkC, hkind⟩ := hRS.1.1 c _ hc.1
    obtain ⟨cf, kf, fi, fd, hi, hsl⟩ := hS f hf
    have hlay := hts _ (hc.2.1 _ (u_in_lay hf))
    unfold u_lay at hlay
    have hst := (u_facts hfc hkC (u_lays hts hc.2.1 hf) hi).1
    rw [if_pos hfin] at hlay
    have hcf : m.cls = cf := by
      obtain ⟨_, _, c', _, _, _, -, -, hf', -, -, -, hown2, -⟩ := Cond.laysFinal_spec hlay
      have e1 : c' = cf := by have := hi.symm.trans hf'; simp at this; exact this.1.symm
      rw [hdecl] at hown2
      rw [← e1]; exact Option.some.inj (hown.symm.trans hown2)
    have h6 := u_fits hfc hkC hkind (Or.inr hlay) hi (hc.2.2.1 f hf) (hok x hx0).1 (hok x hx0).2
    refine W.putFinK hx hb hown (hts _ hlink) (hsame s args hts _ hi) hst hcf (hnm.trans hini) (by rw [q2]; exact h6) q1 q3 (by rw [hsl]; exact k2_hasslot (q4 f hf)) rfl rfl hd fun H' e1 e2 e3 => ?_
    rw [hsl] at e1 ⊢
    refine hK _ _ _ _ _ h p e s m args below meth co H' _ lsA hF (hR.seti hs e2 e3 ?_) (zlocs hq (hR.2.1 _ _ hs).1) hL
    refine ⟨fun t => absurd t (by simp; omega), fun t => absurd t (by simp; omega), fun t t2 => absurd t2 (by simp), fun _ => ⟨_, (by simp only [Nat.add_sub_cancel_left]; exact hc.1), ?_⟩⟩
    simp only [Nat.add_sub_cancel_left]
    refine t_OB.to (V := updV (zfv c (zr X.2.1 a) (X.2.2.1 a)) f (.int x)) ⟨_, e1, q2, q3, t_set q4 hap hf (.int x)⟩ (fun j _ => ?_)
    by_cases hj : j = f
    · subst hj; simp [updV, zfv, hk]
    · simp [updV, zfv, hj]
  · exact h.elim
theorem k_putRF {c f index : Nat} {ref C : String} {T : u_T} {N : Nat} (hc : zcf c C T N) (hf : f < N) (hlink : Cond.fieldLink Y.1.cls index ref (T f).2.1 (T f).2.2.1 ∈ lw_all) (hsame : zsf ref T f) (hfin : (T f).2.2.2 = true) (hini : Y.1.name = "<init>") (hdecl : (T f).1 = Y.1.cls) (hk : refKind (zfty c f) = true) (hd : decode Y.2.1 pc = .ok (.putfield index, 3)) : zStep V Y pc (oPR c f) (pc + 3) := by
  intro K hK ls st X k n h p e s m args below meth co H locs lsA hF hR hq hL
  unfold oPR at h
  split at h
  · next x a r =>
    obtain ⟨ht, h⟩ := h
    obtain ⟨hob, hs⟩ := zobj hR hc ht
    obtain ⟨cell, q1, q2, q3, q4⟩ := hob
    obtain ⟨hx, hb, hr, hml, hown, hts, hlk, hnm, hxt, hRS⟩ := id hF
    have hap := va_apart (own := C) hts hc.2.1 (zfty c) hc.2.2.1 hc.2.2.2 hRS.1 hc.1
    obtain ⟨hS, hfc, kC, hkC, hkind⟩ := hRS.1.1 c _ hc.1
    obtain ⟨cf, kf, fi, fd, hi, hsl⟩ := hS f hf
    have hlay := hts _ (hc.2.1 _ (u_in_lay hf))
    unfold u_lay at hlay
    have hst := (u_facts hfc hkC (u_lays hts hc.2.1 hf) hi).1
    rw [if_pos hfin] at hlay
    have hcf : m.cls = cf := by
      obtain ⟨_, _, c', _, _, _, -, -, hf', -, -, -, hown2, -⟩ := Cond.laysFinal_spec hlay
      have e1 : c' = cf := by have := hi.symm.trans hf'; simp at this; exact this.1.symm
      rw [hdecl] at hown2
      rw [← e1]; exact Option.some.inj (hown.symm.trans hown2)
    have h6 := u_fits hfc hkC hkind (Or.inr hlay) hi (hc.2.2.1 f hf) (zfitR hk (some x)).1 (zfitR hk (some x)).2
    refine W.putFinK hx hb hown (hts _ hlink) (hsame s args hts _ hi) hst hcf (hnm.trans hini) (by rw [q2]; exact h6) q1 q3 (by rw [hsl]; exact k2_hasslot (q4 f hf)) rfl rfl hd fun H' e1 e2 e3 => ?_
    rw [hsl] at e1 ⊢
    refine hK _ _ _ _ _ h p e s m args below meth co H' _ lsA hF (hR.setr hs e2 e3 ?_) (zlocs hq (hR.2.1 _ _ hs).1) hL
    refine ⟨fun t => absurd t (by simp; omega), fun t => absurd t (by simp; omega), fun t t2 => absurd t2 (by simp), fun _ => ⟨_, (by simp only [Nat.add_sub_cancel_left]; exact hc.1), ?_⟩⟩
    simp only [Nat.add_sub_cancel_left]
    refine t_OB.to (V := updV (zfv c (zr X.2.1 a) (X.2.2.1 a)) f (.ref x)) ⟨_, e1, q2, q3, t_set q4 hap hf (.ref x)⟩ (fun j _ => ?_)
    by_cases hj : j = f
    · subst hj; simp [updV, zfv, hk, va_up, va_rf]
    · simp [updV, zfv, hj, va_up]
  · next a r =>
    obtain ⟨ht, h⟩ := h
    obtain ⟨hob, hs⟩ := zobj hR hc ht
    obtain ⟨cell, q1, q2, q3, q4⟩ := hob
    obtain ⟨hx, hb, hr, hml, hown, hts, hlk, hnm, hxt, hRS⟩ := id hF
    have hap := va_apart (own := C) hts hc.2.1 (zfty c) hc.2.2.1 hc.2.2.2 hRS.1 hc.1
    obtain ⟨hS, hfc, kC, hkC, hkind⟩ := hRS.1.1 c _ hc.1
    obtain ⟨cf, kf, fi, fd, hi, hsl⟩ := hS f hf
    have hlay := hts _ (hc.2.1 _ (u_in_lay hf))
    unfold u_lay at hlay
    have hst := (u_facts hfc hkC (u_lays hts hc.2.1 hf) hi).1
    rw [if_pos hfin] at hlay
    have hcf : m.cls = cf := by
      obtain ⟨_, _, c', _, _, _, -, -, hf', -, -, -, hown2, -⟩ := Cond.laysFinal_spec hlay
      have e1 : c' = cf := by have := hi.symm.trans hf'; simp at this; exact this.1.symm
      rw [hdecl] at hown2
      rw [← e1]; exact Option.some.inj (hown.symm.trans hown2)
    have h6 := u_fits hfc hkC hkind (Or.inr hlay) hi (hc.2.2.1 f hf) (zfitR hk none).1 (zfitR hk none).2
    refine W.putFinK hx hb hown (hts _ hlink) (hsame s args hts _ hi) hst hcf (hnm.trans hini) (by rw [q2]; exact h6) q1 q3 (by rw [hsl]; exact k2_hasslot (q4 f hf)) rfl rfl hd fun H' e1 e2 e3 => ?_
    rw [hsl] at e1 ⊢
    refine hK _ _ _ _ _ h p e s m args below meth co H' _ lsA hF (hR.setr hs e2 e3 ?_) (zlocs hq (hR.2.1 _ _ hs).1) hL
    refine ⟨fun t => absurd t (by simp; omega), fun t => absurd t (by simp; omega), fun t t2 => absurd t2 (by simp), fun _ => ⟨_, (by simp only [Nat.add_sub_cancel_left]; exact hc.1), ?_⟩⟩
    simp only [Nat.add_sub_cancel_left]
    refine t_OB.to (V := updV (zfv c (zr X.2.1 a) (X.2.2.1 a)) f (.null)) ⟨_, e1, q2, q3, t_set q4 hap hf (.null)⟩ (fun j _ => ?_)
    by_cases hj : j = f
    · subst hj; simp [updV, zfv, hk, va_up, va_rf]
    · simp [updV, zfv, hj, va_up]
  · exact h.elim
def oAld1 (t : Nat) (K : zK) : zK := fun ls st X k n => match st with
  | .int i :: .ref a :: r => zt X.2.1 a = t ∧ vp_in i (zn X.2.1 a) ∧ K ls (.int (X.2.2.1 a i.toNatClampNeg) :: r) X k n
  | _ => False
theorem k_iaload (hd : decode Y.2.1 pc = .ok (.iaload, 1)) : zStep V Y pc (oAld1 0) (pc + 1) := by
  intro K hK ls st X k n h p e s m args below meth co H locs lsA hF hR hq hL
  unfold oAld1 at h
  split at h
  · next i a r =>
    obtain ⟨ht, hin, h⟩ := h
    have hs := zt_some ht (by omega)
    have hcell := (hR.2.1 a _ hs).2.2.1 (by simp)
    have hlt : i.toNatClampNeg < zn X.2.1 a := Nat.not_le.mp fun q => hin (Or.inr q)
    have hA := (hF.2.2.2.2.2.2.2.2.2.1.2 0 _ (ztys_at (by omega))).1
    exact W.iald (v := .int (X.2.2.1 a i.toNatClampNeg)) hF.1 hF.2.1 hcell (hA _ (fun j => .int (X.2.2.1 a j))) (fun q => by cases q) (by show ¬ (i < 0 ∨ (arrV _ _ _).slots.size ≤ _); rw [arrV_size]; exact hin) (by show (arrV _ _ _).slots[_]? = _; rw [arrV_read _ _ hlt]) rfl rfl hd (hK _ _ _ _ _ h p e s m args below meth co H locs lsA hF hR hq hL)
  · exact h.elim
theorem k_baload (hd : decode Y.2.1 pc = .ok (.baload, 1)) : zStep V Y pc (oAld1 1) (pc + 1) := by
  intro K hK ls st X k n h p e s m args below meth co H locs lsA hF hR hq hL
  unfold oAld1 at h
  split at h
  · next i a r =>
    obtain ⟨ht, hin, h⟩ := h
    have hs := zt_some ht (by omega)
    have hcell := (hR.2.1 a _ hs).2.2.1 (by simp)
    have hlt : i.toNatClampNeg < zn X.2.1 a := Nat.not_le.mp fun q => hin (Or.inr q)
    have hA := (hF.2.2.2.2.2.2.2.2.2.1.2 1 _ (ztys_at (by omega))).1
    exact W.bald (v := .int (X.2.2.1 a i.toNatClampNeg)) hF.1 hF.2.1 hcell (hA _ (fun j => .int (X.2.2.1 a j))) (fun q => by cases q) (by show ¬ (i < 0 ∨ (arrV _ _ _).slots.size ≤ _); rw [arrV_size]; exact hin) (by show (arrV _ _ _).slots[_]? = _; rw [arrV_read _ _ hlt]) rfl rfl hd (hK _ _ _ _ _ h p e s m args below meth co H locs lsA hF hR hq hL)
  · exact h.elim
theorem k_zaload (hd : decode Y.2.1 pc = .ok (.baload, 1)) : zStep V Y pc (oAld1 2) (pc + 1) := by
  intro K hK ls st X k n h p e s m args below meth co H locs lsA hF hR hq hL
  unfold oAld1 at h
  split at h
  · next i a r =>
    obtain ⟨ht, hin, h⟩ := h
    have hs := zt_some ht (by omega)
    have hcell := (hR.2.1 a _ hs).2.2.1 (by simp)
    have hlt : i.toNatClampNeg < zn X.2.1 a := Nat.not_le.mp fun q => hin (Or.inr q)
    have hA := (hF.2.2.2.2.2.2.2.2.2.1.2 2 _ (ztys_at (by omega))).1
    exact W.zald (v := .int (X.2.2.1 a i.toNatClampNeg)) hF.1 hF.2.1 hcell (hA _ (fun j => .int (X.2.2.1 a j))) (fun q => by cases q) (by show ¬ (i < 0 ∨ (arrV _ _ _).slots.size ≤ _); rw [arrV_size]; exact hin) (by show (arrV _ _ _).slots[_]? = _; rw [arrV_read _ _ hlt]) rfl rfl hd (hK _ _ _ _ _ h p e s m args below meth co H locs lsA hF hR hq hL)
  · exact h.elim
theorem k_saload (hd : decode Y.2.1 pc = .ok (.saload, 1)) : zStep V Y pc (oAld1 3) (pc + 1) := by
  intro K hK ls st X k n h p e s m args below meth co H locs lsA hF hR hq hL
  unfold oAld1 at h
  split at h
  · next i a r =>
    obtain ⟨ht, hin, h⟩ := h
    have hs := zt_some ht (by omega)
    have hcell := (hR.2.1 a _ hs).2.2.1 (by simp)
    have hlt : i.toNatClampNeg < zn X.2.1 a := Nat.not_le.mp fun q => hin (Or.inr q)
    have hA := (hF.2.2.2.2.2.2.2.2.2.1.2 3 _ (ztys_at (by omega))).1
    exact W.sald (v := .int (X.2.2.1 a i.toNatClampNeg)) hF.1 hF.2.1 hcell (hA _ (fun j => .int (X.2.2.1 a j))) (fun q => by cases q) (by show ¬ (i < 0 ∨ (arrV _ _ _).slots.size ≤ _); rw [arrV_size]; exact hin) (by show (arrV _ _ _).slots[_]? = _; rw [arrV_read _ _ hlt]) rfl rfl hd (hK _ _ _ _ _ h p e s m args below meth co H locs lsA hF hR hq hL)
  · exact h.elim
def oAst1 (t : Nat) (f : Int32 → Int32) (K : zK) : zK := fun ls st X k n => match st with
  | .int x :: .int i :: .ref a :: r => zt X.2.1 a = t ∧ vp_in i (zn X.2.1 a) ∧ K ls r (X.1, X.2.1, zu X.2.2.1 a i.toNatClampNeg (f x), X.2.2.2) k n
  | _ => False
theorem k_iastore (hd : decode Y.2.1 pc = .ok (.iastore, 1)) : zStep V Y pc (oAst1 0 (fun x => x)) (pc + 1) := by
  intro K hK ls st X k n h p e s m args below meth co H locs lsA hF hR hq hL
  unfold oAst1 at h
  split at h
  · next x i a r =>
    obtain ⟨ht, hin, h⟩ := h
    have hs := zt_some ht (by omega)
    have hcell := (hR.2.1 a _ hs).2.2.1 (by simp)
    have hA := (hF.2.2.2.2.2.2.2.2.2.1.2 0 _ (ztys_at (by omega))).1
    refine W.iast hF.1 hF.2.1 hcell (hA _ (fun j => .int (X.2.2.1 a j))) (fun q => by cases q) (by show ¬ (i < 0 ∨ (arrV _ _ _).slots.size ≤ _); rw [arrV_size]; exact hin) rfl rfl hd fun H1 e1 z oq => ?_
    refine hK _ _ _ _ _ h p e s m args below meth co H1 _ lsA hF (hR.seti hs z oq ?_) (zlocs hq (hR.2.1 _ _ hs).1) hL
    refine ⟨fun _ => ?_, fun t => absurd t (by simp), fun t => absurd t (by simp), fun t => absurd t (by simp)⟩
    rw [e1, arrV_store]
    congr 2
    funext q
    by_cases hq : q = i.toNatClampNeg
    · subst hq; simp [updV]
    · simp [updV, hq]
  · exact h.elim
theorem k_bastore (hd : decode Y.2.1 pc = .ok (.bastore, 1)) : zStep V Y pc (oAst1 1 (vp_nar .byte)) (pc + 1) := by
  intro K hK ls st X k n h p e s m args below meth co H locs lsA hF hR hq hL
  unfold oAst1 at h
  split at h
  · next x i a r =>
    obtain ⟨ht, hin, h⟩ := h
    have hs := zt_some ht (by omega)
    have hcell := (hR.2.1 a _ hs).2.2.1 (by simp)
    have hA := (hF.2.2.2.2.2.2.2.2.2.1.2 1 _ (ztys_at (by omega))).1
    refine W.bast hF.1 hF.2.1 hcell (hA _ (fun j => .int (X.2.2.1 a j))) (fun q => by cases q) (by show ¬ (i < 0 ∨ (arrV _ _ _).slots.size ≤ _); rw [arrV_size]; exact hin) rfl rfl hd fun H1 e1 z oq => ?_
    refine hK _ _ _ _ _ h p e s m args below meth co H1 _ lsA hF (hR.seti hs z oq ?_) (zlocs hq (hR.2.1 _ _ hs).1) hL
    refine ⟨fun _ => ?_, fun t => absurd t (by simp), fun t => absurd t (by simp), fun t => absurd t (by simp)⟩
    rw [e1, arrV_store]
    congr 2
    funext q
    by_cases hq : q = i.toNatClampNeg
    · subst hq; rw [show narrow .byte (.int x) = .int (vp_nar .byte x) from rfl]; simp [updV]
    · simp [updV, hq]
  · exact h.elim
theorem k_zastore (hd : decode Y.2.1 pc = .ok (.bastore, 1)) : zStep V Y pc (oAst1 2 (vp_nar .boolean)) (pc + 1) := by
  intro K hK ls st X k n h p e s m args below meth co H locs lsA hF hR hq hL
  unfold oAst1 at h
  split at h
  · next x i a r =>
    obtain ⟨ht, hin, h⟩ := h
    have hs := zt_some ht (by omega)
    have hcell := (hR.2.1 a _ hs).2.2.1 (by simp)
    have hA := (hF.2.2.2.2.2.2.2.2.2.1.2 2 _ (ztys_at (by omega))).1
    refine W.zast hF.1 hF.2.1 hcell (hA _ (fun j => .int (X.2.2.1 a j))) (fun q => by cases q) (by show ¬ (i < 0 ∨ (arrV _ _ _).slots.size ≤ _); rw [arrV_size]; exact hin) rfl rfl hd fun H1 e1 z oq => ?_
    refine hK _ _ _ _ _ h p e s m args below meth co H1 _ lsA hF (hR.seti hs z oq ?_) (zlocs hq (hR.2.1 _ _ hs).1) hL
    refine ⟨fun _ => ?_, fun t => absurd t (by simp), fun t => absurd t (by simp), fun t => absurd t (by simp)⟩
    rw [e1, arrV_store]
    congr 2
    funext q
    by_cases hq : q = i.toNatClampNeg
    · subst hq; rw [show narrow .boolean (.int x) = .int (vp_nar .boolean x) from rfl]; simp [updV]
    · simp [updV, hq]
  · exact h.elim
theorem k_sastore (hd : decode Y.2.1 pc = .ok (.sastore, 1)) : zStep V Y pc (oAst1 3 (vp_nar .short)) (pc + 1) := by
  intro K hK ls st X k n h p e s m args below meth co H locs lsA hF hR hq hL
  unfold oAst1 at h
  split at h
  · next x i a r =>
    obtain ⟨ht, hin, h⟩ := h
    have hs := zt_some ht (by omega)
    have hcell := (hR.2.1 a _ hs).2.2.1 (by simp)
    have hA := (hF.2.2.2.2.2.2.2.2.2.1.2 3 _ (ztys_at (by omega))).1
    refine W.sast hF.1 hF.2.1 hcell (hA _ (fun j => .int (X.2.2.1 a j))) (fun q => by cases q) (by show ¬ (i < 0 ∨ (arrV _ _ _).slots.size ≤ _); rw [arrV_size]; exact hin) rfl rfl hd fun H1 e1 z oq => ?_
    refine hK _ _ _ _ _ h p e s m args below meth co H1 _ lsA hF (hR.seti hs z oq ?_) (zlocs hq (hR.2.1 _ _ hs).1) hL
    refine ⟨fun _ => ?_, fun t => absurd t (by simp), fun t => absurd t (by simp), fun t => absurd t (by simp)⟩
    rw [e1, arrV_store]
    congr 2
    funext q
    by_cases hq : q = i.toNatClampNeg
    · subst hq; rw [show narrow .short (.int x) = .int (vp_nar .short x) from rfl]; simp [updV]
    · simp [updV, hq]
  · exact h.elim
def oLald (K : zK) : zK := fun ls st X k n => match st with
  | .int i :: .ref a :: r => zt X.2.1 a = 4 ∧ vp_in i (zn X.2.1 a) ∧ K ls (.long (X.2.2.2 a i.toNatClampNeg) :: r) X k n
  | _ => False
theorem k_laload (hd : decode Y.2.1 pc = .ok (.laload, 1)) : zStep V Y pc oLald (pc + 1) := by
  intro K hK ls st X k n h p e s m args below meth co H locs lsA hF hR hq hL
  unfold oLald at h
  split at h
  · next i a r =>
    obtain ⟨ht, hin, h⟩ := h
    have hs := zt_some ht (by omega)
    have hcell := (hR.2.1 a _ hs).2.2.2.1 (by simp)
    have hlt : i.toNatClampNeg < zn X.2.1 a := Nat.not_le.mp fun q => hin (Or.inr q)
    have hA := (hF.2.2.2.2.2.2.2.2.2.1.2 4 _ (ztys_at (by omega))).1
    exact W.lald (v := .long (X.2.2.2 a i.toNatClampNeg)) hF.1 hF.2.1 hcell (hA _ (fun j => .long (X.2.2.2 a j))) (fun q => by cases q) (by show ¬ (i < 0 ∨ (arrV _ _ _).slots.size ≤ _); rw [arrV_size]; exact hin) (by show (arrV _ _ _).slots[_]? = _; rw [arrV_read _ _ hlt]) rfl rfl hd (hK _ _ _ _ _ h p e s m args below meth co H locs lsA hF hR hq hL)
  · exact h.elim
def oLast (K : zK) : zK := fun ls st X k n => match st with
  | .long x :: .int i :: .ref a :: r => zt X.2.1 a = 4 ∧ vp_in i (zn X.2.1 a) ∧ K ls r (X.1, X.2.1, X.2.2.1, zu X.2.2.2 a i.toNatClampNeg x) k n
  | _ => False
theorem k_lastore (hd : decode Y.2.1 pc = .ok (.lastore, 1)) : zStep V Y pc oLast (pc + 1) := by
  intro K hK ls st X k n h p e s m args below meth co H locs lsA hF hR hq hL
  unfold oLast at h
  split at h
  · next x i a r =>
    obtain ⟨ht, hin, h⟩ := h
    have hs := zt_some ht (by omega)
    have hcell := (hR.2.1 a _ hs).2.2.2.1 (by simp)
    have hA := (hF.2.2.2.2.2.2.2.2.2.1.2 4 _ (ztys_at (by omega))).1
    refine W.last hF.1 hF.2.1 hcell (hA _ (fun j => .long (X.2.2.2 a j))) (fun q => by cases q) (by show ¬ (i < 0 ∨ (arrV _ _ _).slots.size ≤ _); rw [arrV_size]; exact hin) rfl rfl hd fun H1 e1 z oq => ?_
    refine hK _ _ _ _ _ h p e s m args below meth co H1 _ lsA hF (hR.setl hs z oq ?_) (zlocs hq (hR.2.1 _ _ hs).1) hL
    refine ⟨fun t => absurd t (by simp), fun _ => ?_, fun t => absurd t (by simp), fun t => absurd t (by simp)⟩
    rw [e1, arrV_store]
    congr 2
    funext q
    by_cases hq : q = i.toNatClampNeg
    · subst hq; simp [updV]
    · simp [updV, hq]
  · exact h.elim
def oAld9 (t : Nat) (K : zK) : zK := fun ls st X k n => match st with
  | .int i :: .ref a :: r => zt X.2.1 a = t ∧ vp_in i (zn X.2.1 a) ∧ K ls (va_rf (zr X.2.1 a i.toNatClampNeg) :: r) X k n
  | _ => False
theorem k_aaload {t : Nat} (h5 : 5 ≤ t) (h11 : t < 11) (hd : decode Y.2.1 pc = .ok (.aaload, 1)) : zStep V Y pc (oAld9 t) (pc + 1) := by
  intro K hK ls st X k n h p e s m args below meth co H locs lsA hF hR hq hL
  unfold oAld9 at h
  split at h
  · next i a r =>
    obtain ⟨ht, hin, h⟩ := h
    have hs := zt_some ht (by omega)
    have hcell := (hR.2.1 a _ hs).2.2.2.2.1 (by simp; omega) (by simp; omega)
    have hlt : i.toNatClampNeg < zn X.2.1 a := Nat.not_le.mp fun q => hin (Or.inr q)
    have hA := (hF.2.2.2.2.2.2.2.2.2.1.2 t _ (ztys_at h11)).1
    have hrt : (zty t).isReference = true := by
      obtain rfl | rfl | rfl | rfl | rfl | rfl : t = 5 ∨ t = 6 ∨ t = 7 ∨ t = 8 ∨ t = 9 ∨ t = 10 := by omega
      all_goals rfl
    exact W.aald (v := va_rf (zr X.2.1 a i.toNatClampNeg)) hF.1 hF.2.1 hcell (hA _ (fun j => va_rf (zr X.2.1 a j))) hrt (fun q => by cases q) (by show ¬ (i < 0 ∨ (arrV _ _ _).slots.size ≤ _); rw [arrV_size]; exact hin) (by show (arrV _ _ _).slots[_]? = _; rw [arrV_read _ _ hlt]) rfl rfl hd (hK _ _ _ _ _ h p e s m args below meth co H locs lsA hF hR hq hL)
  · exact h.elim
def oLen (t : Nat) (K : zK) : zK := fun ls st X k n => match st with
  | .ref a :: r => zt X.2.1 a = t ∧ K ls (.int (nI (zn X.2.1 a)) :: r) X k n
  | _ => False
theorem k_alen {t : Nat} (h11 : t < 11) (hd : decode Y.2.1 pc = .ok (.arraylength, 1)) : zStep V Y pc (oLen t) (pc + 1) := by
  intro K hK ls st X k n h p e s m args below meth co H locs lsA hF hR hq hL
  unfold oLen at h
  split at h
  · next a r =>
    obtain ⟨ht, h⟩ := h
    have hs := zt_some ht (by omega)
    obtain ⟨w1, w2, w3, w4⟩ := (hR.2.1 a _ hs).2.2
    have hA := (hF.2.2.2.2.2.2.2.2.2.1.2 t _ (ztys_at h11)).1
    have hsz : ∀ f, (arrV (V.2.1.2.1 t) (zn X.2.1 a) f).slots.size.toInt32 = nI (zn X.2.1 a) := fun f => by rw [arrV_size]; rfl
    have key : ∃ f, H[a]? = some (arrV (V.2.1.2.1 t) (zn X.2.1 a) f) := by
      rcases Nat.lt_trichotomy t 4 with q | q | q
      · exact ⟨_, w1 q⟩
      · subst q; exact ⟨_, w2 rfl⟩
      · exact ⟨_, w3 q (by show t < 20; omega)⟩
    obtain ⟨f, hcell⟩ := key
    exact W.alen hF.1 hF.2.1 hcell (hA _ f) (hsz f) rfl rfl hd (hK _ _ _ _ _ h p e s m args below meth co H locs lsA hF hR hq hL)
  · exact h.elim
end ZB
