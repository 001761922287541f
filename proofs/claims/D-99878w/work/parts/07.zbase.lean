/-! z-layer, 1: tables, abstract heap, judgements -/
def TZ0 : u_T := fun _ => ("", "", "", false)
def zcl : List vw_C := [(RX0, TX0, 23), (RX1, TX1, 8), (RX2, TX2, 8), (RX3, TX3, 7), (RX4, TX4, 8), (RX5, TX5, 13), (RX6, TX6, 2), (RX8, TZ0, 0), (RX9, TZ0, 0), (RJ5, TJ5, 3), (RX10, TX10, 72), (RX11, TX11, 4), (RJ8, TJ8, 4), (RX13, TX13, 1), (RX14, TX14, 1), (RX15, TX15, 3), (RJ12, TJ12, 4), (RX17, TX17, 1), (RX18, TX18, 3), (RX19, TX19, 4), (RX20, TX20, 2)]
def zfty : Nat → Nat → FieldType := fun c => match c with
  | 0 => tyX0 | 1 => tyX1 | 2 => tyX2 | 3 => tyX3 | 4 => tyX4 | 5 => tyX5 | 6 => tyX6 | 9 => tyJ5 | 10 => tyX10 | 11 => tyX11 | 12 => tyJ8 | 13 => tyX13 | 14 => tyX14 | 15 => tyX15 | 16 => tyJ12 | 17 => tyX17 | 18 => tyX18 | 19 => tyX19 | 20 => tyX20
  | _ => fun _ => .int
def zcf (c : Nat) (C : String) (T : u_T) (N : Nat) : Prop := zcl[c]? = some (C, T, N) ∧ (∀ w ∈ u_ws C T N, w ∈ lw_all) ∧ (∀ k, k < N → parseFieldDescriptor (T k).2.2.1 = some (zfty c k)) ∧ (∀ a, a < N → ∀ b, b < N → a ≠ b → (T a).2.1 ≠ (T b).2.1)
theorem zc0 : zcf 0 RX0 TX0 23 := ⟨rfl, in_X0, tyX0_ok, nmX0⟩
theorem zc1 : zcf 1 RX1 TX1 8 := ⟨rfl, in_X1, tyX1_ok, nmX1⟩
theorem zc2 : zcf 2 RX2 TX2 8 := ⟨rfl, in_X2, tyX2_ok, nmX2⟩
theorem zc3 : zcf 3 RX3 TX3 7 := ⟨rfl, in_X3, tyX3_ok, nmX3⟩
theorem zc4 : zcf 4 RX4 TX4 8 := ⟨rfl, in_X4, tyX4_ok, nmX4⟩
theorem zc5 : zcf 5 RX5 TX5 13 := ⟨rfl, in_X5, tyX5_ok, nmX5⟩
theorem zc6 : zcf 6 RX6 TX6 2 := ⟨rfl, in_X6, tyX6_ok, nmX6⟩
theorem zc7 : zcf 7 RX8 TZ0 0 := ⟨rfl, fun w h => absurd h (by simp [u_ws]), fun k h => absurd h (Nat.not_lt_zero _), fun k h => absurd h (Nat.not_lt_zero _)⟩
theorem zc8 : zcf 8 RX9 TZ0 0 := ⟨rfl, fun w h => absurd h (by simp [u_ws]), fun k h => absurd h (Nat.not_lt_zero _), fun k h => absurd h (Nat.not_lt_zero _)⟩
theorem zc9 : zcf 9 RJ5 TJ5 3 := ⟨rfl, in_J5, tyJ5_ok, nmJ5⟩
theorem zc10 : zcf 10 RX10 TX10 72 := ⟨rfl, in_X10, tyX10_ok, nmX10⟩
theorem zc11 : zcf 11 RX11 TX11 4 := ⟨rfl, in_X11, tyX11_ok, nmX11⟩
theorem zc12 : zcf 12 RJ8 TJ8 4 := ⟨rfl, in_J8, tyJ8_ok, nmJ8⟩
theorem zc13 : zcf 13 RX13 TX13 1 := ⟨rfl, in_X13, tyX13_ok, nmX13⟩
theorem zc14 : zcf 14 RX14 TX14 1 := ⟨rfl, in_X14, tyX14_ok, nmX14⟩
theorem zc15 : zcf 15 RX15 TX15 3 := ⟨rfl, in_X15, tyX15_ok, nmX15⟩
theorem zc16 : zcf 16 RJ12 TJ12 4 := ⟨rfl, in_J12, tyJ12_ok, nmJ12⟩
theorem zc17 : zcf 17 RX17 TX17 1 := ⟨rfl, in_X17, tyX17_ok, nmX17⟩
theorem zc18 : zcf 18 RX18 TX18 3 := ⟨rfl, in_X18, tyX18_ok, nmX18⟩
theorem zc19 : zcf 19 RX19 TX19 4 := ⟨rfl, in_X19, tyX19_ok, nmX19⟩
theorem zc20 : zcf 20 RX20 TX20 2 := ⟨rfl, in_X20, tyX20_ok, nmX20⟩
/-- array types by number -/
def zty : Nat → FieldType := fun t => match t with
  | 0 => .int | 1 => .byte | 2 => .boolean | 3 => .short | 4 => .long | 5 => .object "java/lang/String" | 6 => .object "BlushLamps$Law" | 7 => .object "BlushLamps$Town" | 8 => .object "BlushLamps$Sum" | 9 => .object "java/lang/Object" | _ => .array .int
/-- a cell's shape: kind (an array's type; 20 + an object's class), length, references -/
abbrev zSh : Type := Nat × Nat × (Nat → Option Nat)
/-- the abstract heap: size, shapes, ints, longs -/
abbrev zX : Type := Nat × (Nat → Option zSh) × (Nat → Nat → Int32) × (Nat → Nat → Int64)
/-- classes, array classes, the heap at the start, what holds of the tables all through the run -/
abbrev zE : Type := va_G × (Nat → ClassId) × Heap × (State → Prop)
/-- a method: name, code, locals, answer, handlers -/
abbrev zY : Type := MethodName × ByteArray × Nat × Option FieldType × List (Nat × Nat × Nat × Nat)
def zfv (c : Nat) (r : Nat → Option Nat) (f : Nat → Int32) (k : Nat) : Value := if refKind (zfty c k) = true then va_rf (r k) else .int (f k)
def zat (E : zE) (a : Nat) (q : zSh) (f : Nat → Int32) (g : Nat → Int64) (H : Heap) : Prop :=
  (q.1 < 4 → H[a]? = some (arrV (E.2.1 q.1) q.2.1 (fun j => .int (f j)))) ∧
  (q.1 = 4 → H[a]? = some (arrV (E.2.1 4) q.2.1 (fun j => .long (g j)))) ∧
  (4 < q.1 → q.1 < 20 → H[a]? = some (arrV (E.2.1 q.1) q.2.1 (fun j => va_rf (q.2.2 j)))) ∧
  (20 ≤ q.1 → ∃ r, zcl[q.1 - 20]? = some r ∧ t_OB a (E.1.1 (q.1 - 20)) r.2.2 (E.1.2 (q.1 - 20)) H (zfv (q.1 - 20) q.2.2 f))
def zRH (E : zE) (X : zX) (H : Heap) : Prop := H.size = X.1 ∧ (∀ (a : Nat) (q : zSh), X.2.1 a = some q → E.2.2.1.size ≤ a ∧ a < X.1 ∧ zat E a q (X.2.2.1 a) (X.2.2.2 a) H) ∧ E.2.2.1.size ≤ H.size ∧ ∀ a : Nat, a < E.2.2.1.size → H[a]? = E.2.2.1[a]?
def ztys (E : zE) : List (ClassId × FieldType) := (List.range 11).map (fun t => (E.2.1 t, zty t))
/-- words of the tables that don't ride in the lists -/
def zkd (w : Cond) : Bool := match w with
  | .methodLinkNest _ _ _ _ => true
  | .castable _ _ => true
  | .declares _ => true
  | .arrayOver (.object _) => true
  | _ => false
def zwd : List Cond := lw_tbl.filter zkd
def zCl (P : State → Prop) : Prop := (∀ s U : State, s.WarmedH U.vm → P s → P U) ∧ ∀ s U : State, s.vm = U.vm → P s → P U
def zRS (E : zE) (U : State) : Prop := va_K E.1 zcl (ztys E) U ∧ (∀ w ∈ zwd, va_Nw w U) ∧ E.2.2.2 U ∧ zCl E.2.2.2
theorem zwarm {w : Cond} (hw : zkd w = true) {s U : State} (hW : s.WarmedH U.vm) (h : va_Nw w s) : va_Nw w U := by
  unfold zkd at hw
  split at hw
  · exact va_Nw.warmM hW h
  · exact va_Nw.warmC hW h
  · exact va_Nw.warmD hW h
  · exact va_AO.moved hW.alike h
  · cases hw
theorem zsame {w : Cond} (hw : zkd w = true) {s U : State} (hv : s.vm = U.vm) (h : va_Nw w s) : va_Nw w U := by
  unfold zkd at hw
  split at hw
  · exact va_Nw.same rfl hv h
  · exact va_Nw.same rfl hv h
  · exact va_Nw.same rfl hv h
  · exact va_AO.moved (by rw [hv]; exact Vm.Alike.refl _) h
  · cases hw
theorem zRS.warm {E : zE} {s U : State} (hW : s.WarmedH U.vm) (h : zRS E s) : zRS E U :=
  ⟨va_K.moved hW.alike h.1, fun w hw => zwarm (List.mem_filter.mp hw).2 hW (h.2.1 w hw), h.2.2.2.1 s U hW h.2.2.1, h.2.2.2⟩
theorem zRS.same {E : zE} {s U : State} (hv : s.vm = U.vm) (h : zRS E s) : zRS E U :=
  ⟨va_K.moved (by rw [hv]; exact Vm.Alike.refl _) h.1, fun w hw => zsame (List.mem_filter.mp hw).2 hv (h.2.1 w hw), h.2.2.2.2 s U hv h.2.2.1, h.2.2.2⟩
def zroom (d mc ms : Nat) : Room := { frames := d, cells := mc, slots := ms, locals := 64 * d }
def zws (Y : zY) : List Cond := match Y.2.2.2.2 with
  | [] => ws_ Y.1 Y.2.1 Y.2.2.1 Y.2.2.2.1
  | h :: hh => wsW_ Y.1 Y.2.1 Y.2.2.1 Y.2.2.2.1 (h :: hh)
def zQc (E : zE) (Q : Option Value → zX → Prop) : Array Value → State → Outcome → State → Prop := fun _ _ o t => ∃ (r : Option Value) (X : zX), o = .returned r ∧ Q r X ∧ zRH E X t.heap
def zXc (E : zE) (QX : Nat → zX → Prop) : String → Addr → State → State → Prop := fun EC q _ t => EC = RX1 ∧ ∃ X : zX, QX q X ∧ zRH E X t.heap
/-- a contract: called with these values in this abstract heap, it returns with Q, or throws with QX -/
def zM (l : Launch) (E : zE) (d : Nat) (Y : zY) (av : List Value) (X : zX) (mc ms : Nat) (Q : Option Value → zX → Prop) (QX : Nat → zX → Prop) : Prop :=
  zx_Met l Y.1 (zws Y) (zroom d mc ms) (va_Pc av (fun U => zRS E U ∧ zRH E X U.heap)) (zQc E Q) (zXc E QX) mc ms (fun q => E.2.2.1.size ≤ q)
/-- locals -/
def zL (lsA : Array Slot) (nL : Nat) (ls : List (Option Value)) : Prop := lsA.size = nL ∧ lv_wf lsA ∧ ∀ (i : Nat) (v : Value), ls[i]? = some (some v) → (v.category = 1 ∨ ls[i + 1]? = some none) → lsA[i]? = some (.val v)
def zF (E : zE) (Y : zY) (p : Program) (s : State) (m : MethodId) (args : Array Value) (meth : Method) (c : Code) : Prop :=
  p.tables.exec = Jvm.exec ∧ c.code = Y.2.1 ∧ meth.sig.returnType = Y.2.2.2.1 ∧ c.maxLocals = Y.2.2.1 ∧ s.vm.findClass Y.1.cls = some m.cls ∧ (∀ w ∈ lw_all, w.before args s = true) ∧ meth.locks = false ∧ meth.name = Y.1.name ∧ c.exceptionTable.toList = tableOf Y.2.2.2.2 ∧ zRS E s
abbrev zK : Type := List (Option Value) → List Value → zX → Nat → Nat → Prop
/-- what a frame owes: launch, tables, depth, cells, slots, its end and its throw -/
abbrev zV : Type := Launch × zE × Nat × Nat × Nat × (Option Value → zX → Prop) × (Nat → zX → Prop)
def zW (V : zV) (Y : zY) (pc : Nat) : zK := fun ls st X k n =>
  ∀ (p : Program) (e : Env) (s : State) (m : MethodId) (args : Array Value) (below : List Frame) (meth : Method) (c : Code) (H : Heap) (locs : List Loc) (lsA : Array Slot),
    zF V.2.1 Y p s m args meth c → zRH V.2.1 X H → (∀ q ∈ locs, V.2.1.2.2.1.size ≤ q.base) → zL lsA Y.2.2.1 ls →
    W p V.1 e (zroom V.2.2.1 V.2.2.2.1 V.2.2.2.2.1) s m args below meth c H locs k n (zx_MQ below (zQc V.2.1 V.2.2.2.2.2.1) (zXc V.2.1 V.2.2.2.2.2.2) args s V.2.2.2.1 V.2.2.2.2.1 (fun q => V.2.1.2.2.1.size ≤ q)) (F0 m pc lsA st)
/-- one step: an op from pc to pc2 -/
def zStep (V : zV) (Y : zY) (pc : Nat) (op : zK → zK) (pc2 : Nat) : Prop := ∀ K : zK, (∀ ls st X k n, K ls st X k n → zW V Y pc2 ls st X k n) → ∀ ls st X k n, op K ls st X k n → zW V Y pc ls st X k n
/-- a call that a frame makes -/
def zC (V : zV) (Y : zY) (av : List Value) (X : zX) (k n : Nat) (K : Option Value → zX → Nat → Nat → Prop) (KX : Nat → zX → Nat → Nat → Prop) : Prop :=
  ∃ (d mc ms : Nat) (Q : Option Value → zX → Prop) (QX : Nat → zX → Prop), zM V.1 V.2.1 d Y av X mc ms Q QX ∧ d + 1 ≤ V.2.2.1 ∧ k + mc ≤ V.2.2.2.1 ∧ n + ms ≤ V.2.2.2.2.1 ∧ (∀ r X', Q r X' → K r X' (k + mc) (n + ms)) ∧ ∀ q X', QX q X' → KX q X' (k + mc) (n + ms)
/-- entry locals -/
def zent (av : List Value) (nL : Nat) : List (Option Value) := ((av.flatMap fun (v : Value) => if v.category = 2 then [some v, none] else [some v]) ++ List.replicate nL none).take nL
theorem zblind {E : zE} {X : zX} {av : List Value} : FrameBlind (va_Pc av (fun U => zRS E U ∧ zRH E X U.heap)) := by
  intro a U g mk h
  exact ⟨h.1, zRS.same (s := U) (U := U.calling g mk a) rfl h.2.1, h.2.2⟩

def zt (h : Nat → Option zSh) (a : Nat) : Nat := match h a with
  | some q => q.1
  | none => 1000
def zn (h : Nat → Option zSh) (a : Nat) : Nat := match h a with
  | some q => q.2.1
  | none => 0
def zr (h : Nat → Option zSh) (a : Nat) : Nat → Option Nat := match h a with
  | some q => q.2.2
  | none => fun _ => none
theorem zt_some {h : Nat → Option zSh} {a t : Nat} (e : zt h a = t) (ht : t < 1000) : h a = some (t, zn h a, zr h a) := by
  unfold zt zn zr at *
  cases hq : h a with
  | none => rw [hq] at e; simp at e; omega
  | some q => rw [hq] at e; simp at e; subst e; rfl
/-- one int of a cell is set -/
def zu {α : Type} (S : Nat → Nat → α) (a k : Nat) (v : α) : Nat → Nat → α := fun b j => if b = a ∧ j = k then v else S b j
theorem zu_row {α : Type} (S : Nat → Nat → α) (a k : Nat) (v : α) : zu S a k v a = fun j => if j = k then v else S a j := by
  funext j; simp [zu]
theorem zu_ne {α : Type} (S : Nat → Nat → α) {a b k : Nat} (v : α) (h : b ≠ a) : zu S a k v b = S b := by
  funext j; simp [zu, h]
/-- one reference of a cell is set -/
def zur (h : Nat → Option zSh) (a k : Nat) (v : Option Nat) : Nat → Option zSh := fun b => if b = a then some (zt h a, zn h a, va_up (zr h a) k v) else h b
