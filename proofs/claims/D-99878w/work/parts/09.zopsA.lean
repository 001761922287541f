/-! z-layer, 3: ops that touch no heap -/
section ZA
variable {V : zV} {Y : zY} {pc : Nat}
theorem z_seq {op : zK → zK} {T : zK} {p1 : Nat} (h1 : zStep V Y pc op p1) (h2 : ∀ ls st X k n, T ls st X k n → zW V Y p1 ls st X k n) : ∀ ls st X k n, op T ls st X k n → zW V Y pc ls st X k n := h1 T h2
theorem z_end : ∀ ls st X k n, zW V Y pc ls st X k n → zW V Y pc ls st X k n := fun _ _ _ _ _ h => h
def oPush (v : Value) (K : zK) : zK := fun ls st X k n => K ls (v :: st) X k n
theorem k_iconst {i : Int} {v : Int32} (hd : decode Y.2.1 pc = .ok (.iconst i, 1)) (hv : Int32.ofInt i = v) : zStep V Y pc (oPush (.int v)) (pc + 1) := by
  intro K hK ls st X k n h p e s m args below meth c H locs lsA hF hR hq hL
  exact lv_iconst hF.1 hF.2.1 hd hv (hK _ _ _ _ _ h p e s m args below meth c H locs lsA hF hR hq hL)
theorem k_bipush {i : Int} {v : Int32} (hd : decode Y.2.1 pc = .ok (.bipush i, 2)) (hv : (Int8.ofInt i).toInt32 = v) : zStep V Y pc (oPush (.int v)) (pc + 2) := by
  intro K hK ls st X k n h p e s m args below meth c H locs lsA hF hR hq hL
  exact lv_bipush hF.1 hF.2.1 hd hv (hK _ _ _ _ _ h p e s m args below meth c H locs lsA hF hR hq hL)
theorem k_sipush {i : Int} {v : Int32} (hd : decode Y.2.1 pc = .ok (.sipush i, 3)) (hv : (Int16.ofInt i).toInt32 = v) : zStep V Y pc (oPush (.int v)) (pc + 3) := by
  intro K hK ls st X k n h p e s m args below meth c H locs lsA hF hR hq hL
  exact lv_sipush hF.1 hF.2.1 hd hv (hK _ _ _ _ _ h p e s m args below meth c H locs lsA hF hR hq hL)
theorem k_lconst {i : Fin 2} {v : Int64} (hd : decode Y.2.1 pc = .ok (.lconst i, 1)) (hv : Int64.ofNat (i : Nat) = v) : zStep V Y pc (oPush (.long v)) (pc + 1) := by
  intro K hK ls st X k n h p e s m args below meth c H locs lsA hF hR hq hL
  exact lv_lconst hF.1 hF.2.1 hd hv (hK _ _ _ _ _ h p e s m args below meth c H locs lsA hF hR hq hL)
theorem k_null (hd : decode Y.2.1 pc = .ok (.aconst_null, 1)) : zStep V Y pc (oPush .null) (pc + 1) := by
  intro K hK ls st X k n h p e s m args below meth c H locs lsA hF hR hq hL
  exact lv_null hF.1 hF.2.1 hd (hK _ _ _ _ _ h p e s m args below meth c H locs lsA hF hR hq hL)
theorem k_ldc {own : String} {index : Nat} {v : Int32} (ho : Y.1.cls = own) (hc : Cond.constant own index v ∈ lw_all) (hd : decode Y.2.1 pc = .ok (.ldc index, 2)) : zStep V Y pc (oPush (.int v)) (pc + 2) := by
  intro K hK ls st X k n h p e s m args below meth c H locs lsA hF hR hq hL
  subst ho
  exact lv_ldc hF.1 hF.2.1 hF.2.2.2.2.1 (hF.2.2.2.2.2.1 _ hc) hd (hK _ _ _ _ _ h p e s m args below meth c H locs lsA hF hR hq hL)
theorem k_ldcw {own : String} {index : Nat} {v : Int32} (ho : Y.1.cls = own) (hc : Cond.constant own index v ∈ lw_all) (hd : decode Y.2.1 pc = .ok (.ldc_w index, 3)) : zStep V Y pc (oPush (.int v)) (pc + 3) := by
  intro K hK ls st X k n h p e s m args below meth c H locs lsA hF hR hq hL
  subst ho
  exact lv_ldcw hF.1 hF.2.1 hF.2.2.2.2.1 (hF.2.2.2.2.2.1 _ hc) hd (hK _ _ _ _ _ h p e s m args below meth c H locs lsA hF hR hq hL)
theorem k_ldc2 {own : String} {index : Nat} {v : Int64} (ho : Y.1.cls = own) (hc : Cond.constantLong own index v ∈ lw_all) (hd : decode Y.2.1 pc = .ok (.ldc2_w index, 3)) : zStep V Y pc (oPush (.long v)) (pc + 3) := by
  intro K hK ls st X k n h p e s m args below meth c H locs lsA hF hR hq hL
  subst ho
  exact lv_ldc2 hF.1 hF.2.1 hF.2.2.2.2.1 (hF.2.2.2.2.2.1 _ hc) hd (hK _ _ _ _ _ h p e s m args below meth c H locs lsA hF hR hq hL)
def oIld (i : Nat) (K : zK) : zK := fun ls st X k n => match ls[i]? with
  | some (some (.int x)) => K ls (.int x :: st) X k n
  | _ => False
def oAld (i : Nat) (K : zK) : zK := fun ls st X k n => match ls[i]? with
  | some (some (.ref x)) => K ls (.ref x :: st) X k n
  | some (some .null) => K ls (.null :: st) X k n
  | _ => False
def oLld (i : Nat) (K : zK) : zK := fun ls st X k n => match ls[i]? with
  | some (some (.long x)) => ls[i + 1]? = some none ∧ K ls (.long x :: st) X k n
  | _ => False
theorem k_iload_n {j : Fin 4} {i : Nat} (hd : decode Y.2.1 pc = .ok (.iload_n j, 1)) (hi : (j : Nat) = i) : zStep V Y pc (oIld i) (pc + 1) := by
  intro K hK ls st X k n h p e s m args below meth c H locs lsA hF hR hq hL
  unfold oIld at h
  split at h
  · next x hx => exact lv_iload_n hF.1 hF.2.1 hd hi (hL.ld1 hx rfl) (hK _ _ _ _ _ h p e s m args below meth c H locs lsA hF hR hq hL)
  · exact h.elim
theorem k_iload {i : Nat} (hd : decode Y.2.1 pc = .ok (.iload i, 2)) : zStep V Y pc (oIld i) (pc + 2) := by
  intro K hK ls st X k n h p e s m args below meth c H locs lsA hF hR hq hL
  unfold oIld at h
  split at h
  · next x hx => exact lv_iload hF.1 hF.2.1 hd (hL.ld1 hx rfl) (hK _ _ _ _ _ h p e s m args below meth c H locs lsA hF hR hq hL)
  · exact h.elim
theorem k_aload_n {j : Fin 4} {i : Nat} (hd : decode Y.2.1 pc = .ok (.aload_n j, 1)) (hi : (j : Nat) = i) : zStep V Y pc (oAld i) (pc + 1) := by
  intro K hK ls st X k n h p e s m args below meth c H locs lsA hF hR hq hL
  unfold oAld at h
  split at h
  · next x hx => exact lv_aload_n hF.1 hF.2.1 hd hi (hL.ld1 hx rfl) (hK _ _ _ _ _ h p e s m args below meth c H locs lsA hF hR hq hL)
  · next hx => exact lv_aload_nN hF.1 hF.2.1 hd hi (hL.ld1 hx rfl) (hK _ _ _ _ _ h p e s m args below meth c H locs lsA hF hR hq hL)
  · exact h.elim
theorem k_aload {i : Nat} (hd : decode Y.2.1 pc = .ok (.aload i, 2)) : zStep V Y pc (oAld i) (pc + 2) := by
  intro K hK ls st X k n h p e s m args below meth c H locs lsA hF hR hq hL
  unfold oAld at h
  split at h
  · next x hx => exact lv_aload hF.1 hF.2.1 hd (hL.ld1 hx rfl) (hK _ _ _ _ _ h p e s m args below meth c H locs lsA hF hR hq hL)
  · next hx => exact lv_aloadN hF.1 hF.2.1 hd (hL.ld1 hx rfl) (hK _ _ _ _ _ h p e s m args below meth c H locs lsA hF hR hq hL)
  · exact h.elim
theorem k_lload_n {j : Fin 4} {i : Nat} (hd : decode Y.2.1 pc = .ok (.lload_n j, 1)) (hi : (j : Nat) = i) : zStep V Y pc (oLld i) (pc + 1) := by
  intro K hK ls st X k n h p e s m args below meth c H locs lsA hF hR hq hL
  unfold oLld at h
  split at h
  · next x hx =>
    obtain ⟨h0, h⟩ := h
    exact lv_lload_n hF.1 hF.2.1 hd hi (hL.2.2 _ _ hx (Or.inr h0)) (hK _ _ _ _ _ h p e s m args below meth c H locs lsA hF hR hq hL)
  · exact h.elim
theorem k_lload {i : Nat} (hd : decode Y.2.1 pc = .ok (.lload i, 2)) : zStep V Y pc (oLld i) (pc + 2) := by
  intro K hK ls st X k n h p e s m args below meth c H locs lsA hF hR hq hL
  unfold oLld at h
  split at h
  · next x hx =>
    obtain ⟨h0, h⟩ := h
    exact lv_lload hF.1 hF.2.1 hd (hL.2.2 _ _ hx (Or.inr h0)) (hK _ _ _ _ _ h p e s m args below meth c H locs lsA hF hR hq hL)
  · exact h.elim
def oIst (i : Nat) (K : zK) : zK := fun ls st X k n => match st with
  | .int x :: r => K (ls.set i (some (.int x))) r X k n
  | _ => False
def oAst (i : Nat) (K : zK) : zK := fun ls st X k n => match st with
  | .ref x :: r => K (ls.set i (some (.ref x))) r X k n
  | .null :: r => K (ls.set i (some .null)) r X k n
  | _ => False
def oLst (i : Nat) (K : zK) : zK := fun ls st X k n => match st with
  | .long x :: r => K ((ls.set i (some (.long x))).set (i + 1) none) r X k n
  | _ => False
def oInc (i : Nat) (v : Int32) (K : zK) : zK := fun ls st X k n => match ls[i]? with
  | some (some (.int x)) => K (ls.set i (some (.int (x + v)))) st X k n
  | _ => False
theorem k_istore_n {j : Fin 4} {i : Nat} (hd : decode Y.2.1 pc = .ok (.istore_n j, 1)) (hi : (j : Nat) = i) (hn : i < Y.2.2.1) : zStep V Y pc (oIst i) (pc + 1) := by
  intro K hK ls st X k n h p e s m args below meth c H locs lsA hF hR hq hL
  unfold oIst at h
  split at h
  · exact lv_istore_n hF.1 hF.2.1 hd hi hL.has hn rfl (fun lsB hB => hK _ _ _ _ _ h p e s m args below meth c H locs lsB hF hR hq (zL.of1 hB))
  · exact h.elim
theorem k_istore {i : Nat} (hd : decode Y.2.1 pc = .ok (.istore i, 2)) (hn : i < Y.2.2.1) : zStep V Y pc (oIst i) (pc + 2) := by
  intro K hK ls st X k n h p e s m args below meth c H locs lsA hF hR hq hL
  unfold oIst at h
  split at h
  · exact lv_istore hF.1 hF.2.1 hd hL.has hn rfl (fun lsB hB => hK _ _ _ _ _ h p e s m args below meth c H locs lsB hF hR hq (zL.of1 hB))
  · exact h.elim
theorem k_astore_n {j : Fin 4} {i : Nat} (hd : decode Y.2.1 pc = .ok (.astore_n j, 1)) (hi : (j : Nat) = i) (hn : i < Y.2.2.1) : zStep V Y pc (oAst i) (pc + 1) := by
  intro K hK ls st X k n h p e s m args below meth c H locs lsA hF hR hq hL
  unfold oAst at h
  split at h
  · exact lv_astore_n hF.1 hF.2.1 hd hi hL.has hn rfl (fun lsB hB => hK _ _ _ _ _ h p e s m args below meth c H locs lsB hF hR hq (zL.of1 hB))
  · exact lv_astore_nN hF.1 hF.2.1 hd hi hL.has hn rfl (fun lsB hB => hK _ _ _ _ _ h p e s m args below meth c H locs lsB hF hR hq (zL.of1 hB))
  · exact h.elim
theorem k_astore {i : Nat} (hd : decode Y.2.1 pc = .ok (.astore i, 2)) (hn : i < Y.2.2.1) : zStep V Y pc (oAst i) (pc + 2) := by
  intro K hK ls st X k n h p e s m args below meth c H locs lsA hF hR hq hL
  unfold oAst at h
  split at h
  · exact lv_astore hF.1 hF.2.1 hd hL.has hn rfl (fun lsB hB => hK _ _ _ _ _ h p e s m args below meth c H locs lsB hF hR hq (zL.of1 hB))
  · exact lv_astoreN hF.1 hF.2.1 hd hL.has hn rfl (fun lsB hB => hK _ _ _ _ _ h p e s m args below meth c H locs lsB hF hR hq (zL.of1 hB))
  · exact h.elim
theorem k_lstore_n {j : Fin 4} {i : Nat} (hd : decode Y.2.1 pc = .ok (.lstore_n j, 1)) (hi : (j : Nat) = i) (hn : i + 1 < Y.2.2.1) : zStep V Y pc (oLst i) (pc + 1) := by
  intro K hK ls st X k n h p e s m args below meth c H locs lsA hF hR hq hL
  unfold oLst at h
  split at h
  · exact lv_lstore_n hF.1 hF.2.1 hd hi hL.has hn rfl (fun lsB hB => hK _ _ _ _ _ h p e s m args below meth c H locs lsB hF hR hq (zL.of2 rfl hB))
  · exact h.elim
theorem k_lstore {i : Nat} (hd : decode Y.2.1 pc = .ok (.lstore i, 2)) (hn : i + 1 < Y.2.2.1) : zStep V Y pc (oLst i) (pc + 2) := by
  intro K hK ls st X k n h p e s m args below meth c H locs lsA hF hR hq hL
  unfold oLst at h
  split at h
  · exact lv_lstore hF.1 hF.2.1 hd hL.has hn rfl (fun lsB hB => hK _ _ _ _ _ h p e s m args below meth c H locs lsB hF hR hq (zL.of2 rfl hB))
  · exact h.elim
theorem k_iinc {i : Nat} {j : Int} {v : Int32} (hd : decode Y.2.1 pc = .ok (.iinc i j, 3)) (hv : Int32.ofInt j = v) (hn : i < Y.2.2.1) : zStep V Y pc (oInc i v) (pc + 3) := by
  intro K hK ls st X k n h p e s m args below meth c H locs lsA hF hR hq hL
  unfold oInc at h
  split at h
  · next x hx =>
    subst hv
    obtain ⟨i0, hi0⟩ := List.getElem?_of_mem (zprs_mem hx (Or.inl rfl))
    exact lv_iinc hF.1 hF.2.1 hd hL.has hi0 rfl hn rfl (fun lsB hB => hK _ _ _ _ _ h p e s m args below meth c H locs lsB hF hR hq (zL.of1 hB))
  · exact h.elim
def oBin (f : Int32 → Int32 → Int32) (K : zK) : zK := fun ls st X k n => match st with
  | .int y :: .int x :: r => K ls (.int (f x y) :: r) X k n
  | _ => False
theorem k_iadd (hd : decode Y.2.1 pc = .ok (.iadd, 1)) : zStep V Y pc (oBin fun x y => x + y) (pc + 1) := by
  intro K hK ls st X k n h p e s m args below meth c H locs lsA hF hR hq hL
  unfold oBin at h
  split at h
  · exact lv_iadd hF.1 hF.2.1 hd (hK _ _ _ _ _ h p e s m args below meth c H locs lsA hF hR hq hL)
  · exact h.elim
theorem k_isub (hd : decode Y.2.1 pc = .ok (.isub, 1)) : zStep V Y pc (oBin fun x y => x - y) (pc + 1) := by
  intro K hK ls st X k n h p e s m args below meth c H locs lsA hF hR hq hL
  unfold oBin at h
  split at h
  · exact lv_isub hF.1 hF.2.1 hd (hK _ _ _ _ _ h p e s m args below meth c H locs lsA hF hR hq hL)
  · exact h.elim
theorem k_imul (hd : decode Y.2.1 pc = .ok (.imul, 1)) : zStep V Y pc (oBin fun x y => x * y) (pc + 1) := by
  intro K hK ls st X k n h p e s m args below meth c H locs lsA hF hR hq hL
  unfold oBin at h
  split at h
  · exact lv_imul hF.1 hF.2.1 hd (hK _ _ _ _ _ h p e s m args below meth c H locs lsA hF hR hq hL)
  · exact h.elim
theorem k_iand (hd : decode Y.2.1 pc = .ok (.iand, 1)) : zStep V Y pc (oBin fun x y => x &&& y) (pc + 1) := by
  intro K hK ls st X k n h p e s m args below meth c H locs lsA hF hR hq hL
  unfold oBin at h
  split at h
  · exact lv_iand hF.1 hF.2.1 hd (hK _ _ _ _ _ h p e s m args below meth c H locs lsA hF hR hq hL)
  · exact h.elim
theorem k_ior (hd : decode Y.2.1 pc = .ok (.ior, 1)) : zStep V Y pc (oBin fun x y => x ||| y) (pc + 1) := by
  intro K hK ls st X k n h p e s m args below meth c H locs lsA hF hR hq hL
  unfold oBin at h
  split at h
  · exact lv_ior hF.1 hF.2.1 hd (hK _ _ _ _ _ h p e s m args below meth c H locs lsA hF hR hq hL)
  · exact h.elim
theorem k_ixor (hd : decode Y.2.1 pc = .ok (.ixor, 1)) : zStep V Y pc (oBin fun x y => x ^^^ y) (pc + 1) := by
  intro K hK ls st X k n h p e s m args below meth c H locs lsA hF hR hq hL
  unfold oBin at h
  split at h
  · exact lv_ixor hF.1 hF.2.1 hd (hK _ _ _ _ _ h p e s m args below meth c H locs lsA hF hR hq hL)
  · exact h.elim
theorem k_ishl (hd : decode Y.2.1 pc = .ok (.ishl, 1)) : zStep V Y pc (oBin fun x y => x <<< (y &&& 31)) (pc + 1) := by
  intro K hK ls st X k n h p e s m args below meth c H locs lsA hF hR hq hL
  unfold oBin at h
  split at h
  · exact lv_ishl hF.1 hF.2.1 hd (hK _ _ _ _ _ h p e s m args below meth c H locs lsA hF hR hq hL)
  · exact h.elim
theorem k_ishr (hd : decode Y.2.1 pc = .ok (.ishr, 1)) : zStep V Y pc (oBin fun x y => x >>> (y &&& 31)) (pc + 1) := by
  intro K hK ls st X k n h p e s m args below meth c H locs lsA hF hR hq hL
  unfold oBin at h
  split at h
  · exact lv_ishr hF.1 hF.2.1 hd (hK _ _ _ _ _ h p e s m args below meth c H locs lsA hF hR hq hL)
  · exact h.elim
theorem k_iushr (hd : decode Y.2.1 pc = .ok (.iushr, 1)) : zStep V Y pc (oBin fun x y => (x.toUInt32 >>> (y.toUInt32 &&& Int32.toUInt32 31)).toInt32) (pc + 1) := by
  intro K hK ls st X k n h p e s m args below meth c H locs lsA hF hR hq hL
  unfold oBin at h
  split at h
  · exact lv_iushr hF.1 hF.2.1 hd rfl (hK _ _ _ _ _ h p e s m args below meth c H locs lsA hF hR hq hL)
  · exact h.elim
def oDiv (f : Int32 → Int32 → Int32) (K : zK) : zK := fun ls st X k n => match st with
  | .int y :: .int x :: r => (¬ y = nI 0) ∧ K ls (.int (f x y) :: r) X k n
  | _ => False
theorem k_idiv (hd : decode Y.2.1 pc = .ok (.idiv, 1)) : zStep V Y pc (oDiv fun x y => x / y) (pc + 1) := by
  intro K hK ls st X k n h p e s m args below meth c H locs lsA hF hR hq hL
  unfold oDiv at h
  split at h
  · obtain ⟨h0, h⟩ := h
    exact lv_idiv hF.1 hF.2.1 hd h0 (hK _ _ _ _ _ h p e s m args below meth c H locs lsA hF hR hq hL)
  · exact h.elim
theorem k_irem (hd : decode Y.2.1 pc = .ok (.irem, 1)) : zStep V Y pc (oDiv fun x y => x - x / y * y) (pc + 1) := by
  intro K hK ls st X k n h p e s m args below meth c H locs lsA hF hR hq hL
  unfold oDiv at h
  split at h
  · obtain ⟨h0, h⟩ := h
    exact lv_irem hF.1 hF.2.1 hd h0 (hK _ _ _ _ _ h p e s m args below meth c H locs lsA hF hR hq hL)
  · exact h.elim
def oUn (f : Int32 → Int32) (K : zK) : zK := fun ls st X k n => match st with
  | .int x :: r => K ls (.int (f x) :: r) X k n
  | _ => False
theorem k_ineg (hd : decode Y.2.1 pc = .ok (.ineg, 1)) : zStep V Y pc (oUn fun x => -x) (pc + 1) := by
  intro K hK ls st X k n h p e s m args below meth c H locs lsA hF hR hq hL
  unfold oUn at h
  split at h
  · exact lv_ineg hF.1 hF.2.1 hd (hK _ _ _ _ _ h p e s m args below meth c H locs lsA hF hR hq hL)
  · exact h.elim
theorem k_i2b (hd : decode Y.2.1 pc = .ok (.i2b, 1)) : zStep V Y pc (oUn fun x => x.toInt8.toInt32) (pc + 1) := by
  intro K hK ls st X k n h p e s m args below meth c H locs lsA hF hR hq hL
  unfold oUn at h
  split at h
  · exact lv_i2b hF.1 hF.2.1 hd rfl (hK _ _ _ _ _ h p e s m args below meth c H locs lsA hF hR hq hL)
  · exact h.elim
theorem k_i2s (hd : decode Y.2.1 pc = .ok (.i2s, 1)) : zStep V Y pc (oUn fun x => x.toInt16.toInt32) (pc + 1) := by
  intro K hK ls st X k n h p e s m args below meth c H locs lsA hF hR hq hL
  unfold oUn at h
  split at h
  · exact lv_i2s hF.1 hF.2.1 hd rfl (hK _ _ _ _ _ h p e s m args below meth c H locs lsA hF hR hq hL)
  · exact h.elim
theorem k_i2c (hd : decode Y.2.1 pc = .ok (.i2c, 1)) : zStep V Y pc (oUn fun x => (x.toUInt32 % 65536).toInt32) (pc + 1) := by
  intro K hK ls st X k n h p e s m args below meth c H locs lsA hF hR hq hL
  unfold oUn at h
  split at h
  · exact lv_i2c hF.1 hF.2.1 hd rfl (hK _ _ _ _ _ h p e s m args below meth c H locs lsA hF hR hq hL)
  · exact h.elim
def oI2l (K : zK) : zK := fun ls st X k n => match st with
  | .int x :: r => K ls (.long x.toInt64 :: r) X k n
  | _ => False
theorem k_i2l (hd : decode Y.2.1 pc = .ok (.i2l, 1)) : zStep V Y pc oI2l (pc + 1) := by
  intro K hK ls st X k n h p e s m args below meth c H locs lsA hF hR hq hL
  unfold oI2l at h
  split at h
  · exact lv_i2l hF.1 hF.2.1 hd rfl (hK _ _ _ _ _ h p e s m args below meth c H locs lsA hF hR hq hL)
  · exact h.elim
def oLBin (f : Int64 → Int64 → Int64) (K : zK) : zK := fun ls st X k n => match st with
  | .long y :: .long x :: r => K ls (.long (f x y) :: r) X k n
  | _ => False
theorem k_ladd (hd : decode Y.2.1 pc = .ok (.ladd, 1)) : zStep V Y pc (oLBin fun x y => x + y) (pc + 1) := by
  intro K hK ls st X k n h p e s m args below meth c H locs lsA hF hR hq hL
  unfold oLBin at h
  split at h
  · exact lv_ladd hF.1 hF.2.1 hd (hK _ _ _ _ _ h p e s m args below meth c H locs lsA hF hR hq hL)
  · exact h.elim
theorem k_lmul (hd : decode Y.2.1 pc = .ok (.lmul, 1)) : zStep V Y pc (oLBin fun x y => x * y) (pc + 1) := by
  intro K hK ls st X k n h p e s m args below meth c H locs lsA hF hR hq hL
  unfold oLBin at h
  split at h
  · exact lv_lmul hF.1 hF.2.1 hd (hK _ _ _ _ _ h p e s m args below meth c H locs lsA hF hR hq hL)
  · exact h.elim
def oLcmp (K : zK) : zK := fun ls st X k n => match st with
  | .long y :: .long x :: r => K ls (.int (lg_cmp x y) :: r) X k n
  | _ => False
theorem k_lcmp (hd : decode Y.2.1 pc = .ok (.lcmp, 1)) : zStep V Y pc oLcmp (pc + 1) := by
  intro K hK ls st X k n h p e s m args below meth c H locs lsA hF hR hq hL
  unfold oLcmp at h
  split at h
  · exact W.lcmp hF.1 hF.2.1 hd (hK _ _ _ _ _ h p e s m args below meth c H locs lsA hF hR hq hL)
  · exact h.elim
def oDup (K : zK) : zK := fun ls st X k n => match st with
  | .int x :: r => K ls (.int x :: .int x :: r) X k n
  | .ref x :: r => K ls (.ref x :: .ref x :: r) X k n
  | _ => False
theorem k_dup (hd : decode Y.2.1 pc = .ok (.dup, 1)) : zStep V Y pc oDup (pc + 1) := by
  intro K hK ls st X k n h p e s m args below meth c H locs lsA hF hR hq hL
  unfold oDup at h
  split at h
  · exact lv_dup hF.1 hF.2.1 hd rfl (hK _ _ _ _ _ h p e s m args below meth c H locs lsA hF hR hq hL)
  · exact lv_dup hF.1 hF.2.1 hd rfl (hK _ _ _ _ _ h p e s m args below meth c H locs lsA hF hR hq hL)
  · exact h.elim
def oPop (K : zK) : zK := fun ls st X k n => match st with
  | .int _ :: r => K ls r X k n
  | .ref _ :: r => K ls r X k n
  | .null :: r => K ls r X k n
  | _ => False
theorem k_pop (hd : decode Y.2.1 pc = .ok (.pop, 1)) : zStep V Y pc oPop (pc + 1) := by
  intro K hK ls st X k n h p e s m args below meth c H locs lsA hF hR hq hL
  unfold oPop at h
  split at h
  · exact lv_pop hF.1 hF.2.1 hd rfl (hK _ _ _ _ _ h p e s m args below meth c H locs lsA hF hR hq hL)
  · exact lv_pop hF.1 hF.2.1 hd rfl (hK _ _ _ _ _ h p e s m args below meth c H locs lsA hF hR hq hL)
  · exact lv_pop hF.1 hF.2.1 hd rfl (hK _ _ _ _ _ h p e s m args below meth c H locs lsA hF hR hq hL)
  · exact h.elim
def oDup2 (K : zK) : zK := fun ls st X k n => match st with
  | .int x :: .ref a :: r => K ls (.int x :: .ref a :: .int x :: .ref a :: r) X k n
  | _ => False
theorem k_dup2 (hd : decode Y.2.1 pc = .ok (.dup2, 1)) : zStep V Y pc oDup2 (pc + 1) := by
  intro K hK ls st X k n h p e s m args below meth c H locs lsA hF hR hq hL
  unfold oDup2 at h
  split at h
  · exact lv_dup2_11 hF.1 hF.2.1 hd rfl rfl (hK _ _ _ _ _ h p e s m args below meth c H locs lsA hF hR hq hL)
  · exact h.elim
def oDupX1 (K : zK) : zK := fun ls st X k n => match st with
  | .int x :: .ref a :: r => K ls (.int x :: .ref a :: .int x :: r) X k n
  | _ => False
theorem k_dup_x1 (hd : decode Y.2.1 pc = .ok (.dup_x1, 1)) : zStep V Y pc oDupX1 (pc + 1) := by
  intro K hK ls st X k n h p e s m args below meth c H locs lsA hF hR hq hL
  unfold oDupX1 at h
  split at h
  · exact lv_dup_x1 hF.1 hF.2.1 hd rfl rfl (hK _ _ _ _ _ h p e s m args below meth c H locs lsA hF hR hq hL)
  · exact h.elim
def oNop (K : zK) : zK := K
theorem k_goto {off : Int} {tgt : Nat} (hd : decode Y.2.1 pc = .ok (.goto off, 3)) (ht : (pc : Int) + off = (tgt : Int)) : zStep V Y pc oNop tgt := by
  intro K hK ls st X k n h p e s m args below meth c H locs lsA hF hR hq hL
  exact lv_goto hF.1 hF.2.1 hd ht (hK _ _ _ _ _ h p e s m args below meth c H locs lsA hF hR hq hL)
def zBr (V : zV) (Y : zY) (pc : Nat) (op : zK → zK → zK) (p1 p2 : Nat) : Prop := ∀ K1 K2 : zK, (∀ ls st X k n, K1 ls st X k n → zW V Y p1 ls st X k n) → (∀ ls st X k n, K2 ls st X k n → zW V Y p2 ls st X k n) → ∀ ls st X k n, op K1 K2 ls st X k n → zW V Y pc ls st X k n
theorem z_br {op : zK → zK → zK} {T1 T2 : zK} {p1 p2 : Nat} (h : zBr V Y pc op p1 p2) (h1 : ∀ ls st X k n, T1 ls st X k n → zW V Y p1 ls st X k n) (h2 : ∀ ls st X k n, T2 ls st X k n → zW V Y p2 ls st X k n) : ∀ ls st X k n, op T1 T2 ls st X k n → zW V Y pc ls st X k n := h T1 T2 h1 h2
def oIf (c : Int32 → Prop) (K1 K2 : zK) : zK := fun ls st X k n => match st with
  | .int x :: r => (c x → K1 ls r X k n) ∧ (¬ c x → K2 ls r X k n)
  | _ => False
def oIfc (c : Int32 → Int32 → Prop) (K1 K2 : zK) : zK := fun ls st X k n => match st with
  | .int y :: .int x :: r => (c x y → K1 ls r X k n) ∧ (¬ c x y → K2 ls r X k n)
  | _ => False
theorem k_if_eq {off : Int} {tgt : Nat} (hd : decode Y.2.1 pc = .ok (.ifCond .eq off, 3)) (ht : (pc : Int) + off = (tgt : Int)) : zBr V Y pc (oIf fun x => x = nI 0) tgt (pc + 3) := by
  intro K1 K2 hK1 hK2 ls st X k n h p e s m args below meth c H locs lsA hF hR hq hL
  unfold oIf at h
  split at h
  · exact lv_if_eq hF.1 hF.2.1 hd ht (fun hc => hK1 _ _ _ _ _ (h.1 hc) p e s m args below meth c H locs lsA hF hR hq hL) (fun hc => hK2 _ _ _ _ _ (h.2 hc) p e s m args below meth c H locs lsA hF hR hq hL)
  · exact h.elim
theorem k_icmp_eq {off : Int} {tgt : Nat} (hd : decode Y.2.1 pc = .ok (.if_icmp .eq off, 3)) (ht : (pc : Int) + off = (tgt : Int)) : zBr V Y pc (oIfc fun x y => x = y) tgt (pc + 3) := by
  intro K1 K2 hK1 hK2 ls st X k n h p e s m args below meth c H locs lsA hF hR hq hL
  unfold oIfc at h
  split at h
  · exact lv_icmp_eq hF.1 hF.2.1 hd ht (fun hc => hK1 _ _ _ _ _ (h.1 hc) p e s m args below meth c H locs lsA hF hR hq hL) (fun hc => hK2 _ _ _ _ _ (h.2 hc) p e s m args below meth c H locs lsA hF hR hq hL)
  · exact h.elim
theorem k_if_ne {off : Int} {tgt : Nat} (hd : decode Y.2.1 pc = .ok (.ifCond .ne off, 3)) (ht : (pc : Int) + off = (tgt : Int)) : zBr V Y pc (oIf fun x => x = nI 0) (pc + 3) tgt := by
  intro K1 K2 hK1 hK2 ls st X k n h p e s m args below meth c H locs lsA hF hR hq hL
  unfold oIf at h
  split at h
  · exact lv_if_ne hF.1 hF.2.1 hd ht (fun hc => hK2 _ _ _ _ _ (h.2 hc) p e s m args below meth c H locs lsA hF hR hq hL) (fun hc => hK1 _ _ _ _ _ (h.1 hc) p e s m args below meth c H locs lsA hF hR hq hL)
  · exact h.elim
theorem k_icmp_ne {off : Int} {tgt : Nat} (hd : decode Y.2.1 pc = .ok (.if_icmp .ne off, 3)) (ht : (pc : Int) + off = (tgt : Int)) : zBr V Y pc (oIfc fun x y => x = y) (pc + 3) tgt := by
  intro K1 K2 hK1 hK2 ls st X k n h p e s m args below meth c H locs lsA hF hR hq hL
  unfold oIfc at h
  split at h
  · exact lv_icmp_ne hF.1 hF.2.1 hd ht (fun hc => hK2 _ _ _ _ _ (h.2 hc) p e s m args below meth c H locs lsA hF hR hq hL) (fun hc => hK1 _ _ _ _ _ (h.1 hc) p e s m args below meth c H locs lsA hF hR hq hL)
  · exact h.elim
theorem k_if_lt {off : Int} {tgt : Nat} (hd : decode Y.2.1 pc = .ok (.ifCond .lt off, 3)) (ht : (pc : Int) + off = (tgt : Int)) : zBr V Y pc (oIf fun x => x < nI 0) tgt (pc + 3) := by
  intro K1 K2 hK1 hK2 ls st X k n h p e s m args below meth c H locs lsA hF hR hq hL
  unfold oIf at h
  split at h
  · exact lv_if_lt hF.1 hF.2.1 hd ht (fun hc => hK1 _ _ _ _ _ (h.1 hc) p e s m args below meth c H locs lsA hF hR hq hL) (fun hc => hK2 _ _ _ _ _ (h.2 hc) p e s m args below meth c H locs lsA hF hR hq hL)
  · exact h.elim
theorem k_icmp_lt {off : Int} {tgt : Nat} (hd : decode Y.2.1 pc = .ok (.if_icmp .lt off, 3)) (ht : (pc : Int) + off = (tgt : Int)) : zBr V Y pc (oIfc fun x y => x < y) tgt (pc + 3) := by
  intro K1 K2 hK1 hK2 ls st X k n h p e s m args below meth c H locs lsA hF hR hq hL
  unfold oIfc at h
  split at h
  · exact lv_icmp_lt hF.1 hF.2.1 hd ht (fun hc => hK1 _ _ _ _ _ (h.1 hc) p e s m args below meth c H locs lsA hF hR hq hL) (fun hc => hK2 _ _ _ _ _ (h.2 hc) p e s m args below meth c H locs lsA hF hR hq hL)
  · exact h.elim
theorem k_if_ge {off : Int} {tgt : Nat} (hd : decode Y.2.1 pc = .ok (.ifCond .ge off, 3)) (ht : (pc : Int) + off = (tgt : Int)) : zBr V Y pc (oIf fun x => nI 0 ≤ x) tgt (pc + 3) := by
  intro K1 K2 hK1 hK2 ls st X k n h p e s m args below meth c H locs lsA hF hR hq hL
  unfold oIf at h
  split at h
  · exact lv_if_ge hF.1 hF.2.1 hd ht (fun hc => hK1 _ _ _ _ _ (h.1 hc) p e s m args below meth c H locs lsA hF hR hq hL) (fun hc => hK2 _ _ _ _ _ (h.2 hc) p e s m args below meth c H locs lsA hF hR hq hL)
  · exact h.elim
theorem k_icmp_ge {off : Int} {tgt : Nat} (hd : decode Y.2.1 pc = .ok (.if_icmp .ge off, 3)) (ht : (pc : Int) + off = (tgt : Int)) : zBr V Y pc (oIfc fun x y => y ≤ x) tgt (pc + 3) := by
  intro K1 K2 hK1 hK2 ls st X k n h p e s m args below meth c H locs lsA hF hR hq hL
  unfold oIfc at h
  split at h
  · exact lv_icmp_ge hF.1 hF.2.1 hd ht (fun hc => hK1 _ _ _ _ _ (h.1 hc) p e s m args below meth c H locs lsA hF hR hq hL) (fun hc => hK2 _ _ _ _ _ (h.2 hc) p e s m args below meth c H locs lsA hF hR hq hL)
  · exact h.elim
theorem k_if_gt {off : Int} {tgt : Nat} (hd : decode Y.2.1 pc = .ok (.ifCond .gt off, 3)) (ht : (pc : Int) + off = (tgt : Int)) : zBr V Y pc (oIf fun x => nI 0 < x) tgt (pc + 3) := by
  intro K1 K2 hK1 hK2 ls st X k n h p e s m args below meth c H locs lsA hF hR hq hL
  unfold oIf at h
  split at h
  · exact lv_if_gt hF.1 hF.2.1 hd ht (fun hc => hK1 _ _ _ _ _ (h.1 hc) p e s m args below meth c H locs lsA hF hR hq hL) (fun hc => hK2 _ _ _ _ _ (h.2 hc) p e s m args below meth c H locs lsA hF hR hq hL)
  · exact h.elim
theorem k_icmp_gt {off : Int} {tgt : Nat} (hd : decode Y.2.1 pc = .ok (.if_icmp .gt off, 3)) (ht : (pc : Int) + off = (tgt : Int)) : zBr V Y pc (oIfc fun x y => y < x) tgt (pc + 3) := by
  intro K1 K2 hK1 hK2 ls st X k n h p e s m args below meth c H locs lsA hF hR hq hL
  unfold oIfc at h
  split at h
  · exact lv_icmp_gt hF.1 hF.2.1 hd ht (fun hc => hK1 _ _ _ _ _ (h.1 hc) p e s m args below meth c H locs lsA hF hR hq hL) (fun hc => hK2 _ _ _ _ _ (h.2 hc) p e s m args below meth c H locs lsA hF hR hq hL)
  · exact h.elim
theorem k_if_le {off : Int} {tgt : Nat} (hd : decode Y.2.1 pc = .ok (.ifCond .le off, 3)) (ht : (pc : Int) + off = (tgt : Int)) : zBr V Y pc (oIf fun x => x ≤ nI 0) tgt (pc + 3) := by
  intro K1 K2 hK1 hK2 ls st X k n h p e s m args below meth c H locs lsA hF hR hq hL
  unfold oIf at h
  split at h
  · exact lv_if_le hF.1 hF.2.1 hd ht (fun hc => hK1 _ _ _ _ _ (h.1 hc) p e s m args below meth c H locs lsA hF hR hq hL) (fun hc => hK2 _ _ _ _ _ (h.2 hc) p e s m args below meth c H locs lsA hF hR hq hL)
  · exact h.elim
theorem k_icmp_le {off : Int} {tgt : Nat} (hd : decode Y.2.1 pc = .ok (.if_icmp .le off, 3)) (ht : (pc : Int) + off = (tgt : Int)) : zBr V Y pc (oIfc fun x y => x ≤ y) tgt (pc + 3) := by
  intro K1 K2 hK1 hK2 ls st X k n h p e s m args below meth c H locs lsA hF hR hq hL
  unfold oIfc at h
  split at h
  · exact lv_icmp_le hF.1 hF.2.1 hd ht (fun hc => hK1 _ _ _ _ _ (h.1 hc) p e s m args below meth c H locs lsA hF hR hq hL) (fun hc => hK2 _ _ _ _ _ (h.2 hc) p e s m args below meth c H locs lsA hF hR hq hL)
  · exact h.elim
/-- null first -/
def oIfN (K1 K2 : zK) : zK := fun ls st X k n => match st with
  | .null :: r => K1 ls r X k n
  | .ref _ :: r => K2 ls r X k n
  | _ => False
theorem k_ifnull {off : Int} {tgt : Nat} (hd : decode Y.2.1 pc = .ok (.ifnull off, 3)) (ht : (pc : Int) + off = (tgt : Int)) : zBr V Y pc oIfN tgt (pc + 3) := by
  intro K1 K2 hK1 hK2 ls st X k n h p e s m args below meth c H locs lsA hF hR hq hL
  unfold oIfN at h
  split at h
  · exact lv_ifnullN hF.1 hF.2.1 hd ht (hK1 _ _ _ _ _ h p e s m args below meth c H locs lsA hF hR hq hL)
  · exact lv_ifnull hF.1 hF.2.1 hd (hK2 _ _ _ _ _ h p e s m args below meth c H locs lsA hF hR hq hL)
  · exact h.elim
theorem k_ifnonnull {off : Int} {tgt : Nat} (hd : decode Y.2.1 pc = .ok (.ifnonnull off, 3)) (ht : (pc : Int) + off = (tgt : Int)) : zBr V Y pc oIfN (pc + 3) tgt := by
  intro K1 K2 hK1 hK2 ls st X k n h p e s m args below meth c H locs lsA hF hR hq hL
  unfold oIfN at h
  split at h
  · exact lv_ifnonnullN hF.1 hF.2.1 hd (hK1 _ _ _ _ _ h p e s m args below meth c H locs lsA hF hR hq hL)
  · exact lv_ifnonnull hF.1 hF.2.1 hd ht (hK2 _ _ _ _ _ h p e s m args below meth c H locs lsA hF hR hq hL)
  · exact h.elim
/-- same reference first -/
def oIfA (K1 K2 : zK) : zK := fun ls st X k n => match st with
  | .ref y :: .ref x :: r => (x = y → K1 ls r X k n) ∧ (¬ x = y → K2 ls r X k n)
  | _ => False
theorem k_acmp_eq {off : Int} {tgt : Nat} (hd : decode Y.2.1 pc = .ok (.if_acmp .eq off, 3)) (ht : (pc : Int) + off = (tgt : Int)) : zBr V Y pc oIfA tgt (pc + 3) := by
  intro K1 K2 hK1 hK2 ls st X k n h p e s m args below meth c H locs lsA hF hR hq hL
  unfold oIfA at h
  split at h
  · next y x r => exact lv_acmp_eq (rx := some x) (ry := some y) hF.1 hF.2.1 hd ht (fun hc => hK1 _ _ _ _ _ (h.1 (Option.some.inj hc)) p e s m args below meth c H locs lsA hF hR hq hL) (fun hc => hK2 _ _ _ _ _ (h.2 (fun e => hc (by rw [e]))) p e s m args below meth c H locs lsA hF hR hq hL)
  · exact h.elim
theorem k_acmp_ne {off : Int} {tgt : Nat} (hd : decode Y.2.1 pc = .ok (.if_acmp .ne off, 3)) (ht : (pc : Int) + off = (tgt : Int)) : zBr V Y pc oIfA (pc + 3) tgt := by
  intro K1 K2 hK1 hK2 ls st X k n h p e s m args below meth c H locs lsA hF hR hq hL
  unfold oIfA at h
  split at h
  · next y x r => exact lv_acmp_ne (rx := some x) (ry := some y) hF.1 hF.2.1 hd ht (fun hc => hK2 _ _ _ _ _ (h.2 (fun e => hc (by rw [e]))) p e s m args below meth c H locs lsA hF hR hq hL) (fun hc => hK1 _ _ _ _ _ (h.1 (Option.some.inj hc)) p e s m args below meth c H locs lsA hF hR hq hL)
  · exact h.elim
end ZA
