/-! the component's world: towns, texts -/
/-- what the component's play may change: the objects of its own but the first text -/
def Rg (c a : Nat) : Prop := (c ≤ a ∧ a < c + 10) ∨ (c + 16 ≤ a ∧ a < c + 606)
def okR (c z a : Nat) : Prop := ¬ Rg c a ∧ a < z
/-- a town at w: ten cells -/
def isTw (h : Nat → Option zSh) (w : Nat) : Prop := zt h w = 25 ∧ (∀ q ∈ [(0, 1), (1, 2), (2, 3), (3, 4), (4, 5), (5, 6), (11, 7), (12, 8)], zr h w q.1 = some (w + q.2)) ∧ (∀ q ∈ [(1, 6), (2, 6), (3, 6), (4, 6), (5, 5), (6, 5), (7, 6), (9, 9)], zt h (w + q.1) = 0 ∧ zn h (w + q.1) = q.2) ∧ zt h (w + 8) = 26 ∧ zr h (w + 8) 0 = some (w + 9)
section W0
variable {h : Nat → Option zSh} {w : Nat}
theorem isTw.k (hW : isTw h w) : zt h w = 25 := hW.1
theorem isTw.r0 (hW : isTw h w) : zr h w 0 = some (w + 1) := hW.2.1 (0, 1) (by decide)
theorem isTw.r1 (hW : isTw h w) : zr h w 1 = some (w + 2) := hW.2.1 (1, 2) (by decide)
theorem isTw.r2 (hW : isTw h w) : zr h w 2 = some (w + 3) := hW.2.1 (2, 3) (by decide)
theorem isTw.r3 (hW : isTw h w) : zr h w 3 = some (w + 4) := hW.2.1 (3, 4) (by decide)
theorem isTw.r4 (hW : isTw h w) : zr h w 4 = some (w + 5) := hW.2.1 (4, 5) (by decide)
theorem isTw.r5 (hW : isTw h w) : zr h w 5 = some (w + 6) := hW.2.1 (5, 6) (by decide)
theorem isTw.r11 (hW : isTw h w) : zr h w 11 = some (w + 7) := hW.2.1 (11, 7) (by decide)
theorem isTw.r12 (hW : isTw h w) : zr h w 12 = some (w + 8) := hW.2.1 (12, 8) (by decide)
theorem isTw.t0 (hW : isTw h w) : zt h (w + 1) = 0 := (hW.2.2.1 (1, 6) (by decide)).1
theorem isTw.n0 (hW : isTw h w) : zn h (w + 1) = 6 := (hW.2.2.1 (1, 6) (by decide)).2
theorem isTw.t1 (hW : isTw h w) : zt h (w + 2) = 0 := (hW.2.2.1 (2, 6) (by decide)).1
theorem isTw.n1 (hW : isTw h w) : zn h (w + 2) = 6 := (hW.2.2.1 (2, 6) (by decide)).2
theorem isTw.t2 (hW : isTw h w) : zt h (w + 3) = 0 := (hW.2.2.1 (3, 6) (by decide)).1
theorem isTw.n2 (hW : isTw h w) : zn h (w + 3) = 6 := (hW.2.2.1 (3, 6) (by decide)).2
theorem isTw.t3 (hW : isTw h w) : zt h (w + 4) = 0 := (hW.2.2.1 (4, 6) (by decide)).1
theorem isTw.n3 (hW : isTw h w) : zn h (w + 4) = 6 := (hW.2.2.1 (4, 6) (by decide)).2
theorem isTw.t4 (hW : isTw h w) : zt h (w + 5) = 0 := (hW.2.2.1 (5, 5) (by decide)).1
theorem isTw.n4 (hW : isTw h w) : zn h (w + 5) = 5 := (hW.2.2.1 (5, 5) (by decide)).2
theorem isTw.t5 (hW : isTw h w) : zt h (w + 6) = 0 := (hW.2.2.1 (6, 5) (by decide)).1
theorem isTw.n5 (hW : isTw h w) : zn h (w + 6) = 5 := (hW.2.2.1 (6, 5) (by decide)).2
theorem isTw.t11 (hW : isTw h w) : zt h (w + 7) = 0 := (hW.2.2.1 (7, 6) (by decide)).1
theorem isTw.n11 (hW : isTw h w) : zn h (w + 7) = 6 := (hW.2.2.1 (7, 6) (by decide)).2
theorem isTw.t12 (hW : isTw h w) : zt h (w + 8) = 26 := hW.2.2.2.1
theorem isTw.q (hW : isTw h w) : zr h (w + 8) 0 = some (w + 9) := hW.2.2.2.2
theorem isTw.qt (hW : isTw h w) : zt h (w + 9) = 0 := (hW.2.2.1 (9, 9) (by decide)).1
theorem isTw.qn (hW : isTw h w) : zn h (w + 9) = 9 := (hW.2.2.1 (9, 9) (by decide)).2
theorem isTw.ak (hW : isTw h w) : isAk h (w + 8) (w + 9) := ⟨hW.t12, hW.q, hW.qt, hW.qn, by omega⟩
end W0
/-- a list whose cells are kept -/
def isLo (h : Nat → Option zSh) (S : Nat → Nat → Int32) (ok : Nat → Prop) (a n : Nat) (f : Nat → Nat) : Prop := ok a ∧ zt h a = 29 ∧ S a 2 = nI n ∧ n ≤ 100 ∧ (0 < n → ∃ e, ok e ∧ zr h a 1 = some e ∧ zt h e = 9 ∧ n ≤ zn h e ∧ zn h e ≤ 1000 ∧ ∀ i, i < n → zr h e i = some (f i))
theorem isLo.ls {h : Nat → Option zSh} {S : Nat → Nat → Int32} {ok : Nat → Prop} {a n : Nat} {f : Nat → Nat} (hL : isLo h S ok a n f) : isLs h S a n f := by
  obtain ⟨-, h1, h2, h3, h4⟩ := hL
  refine ⟨h1, h2, h3, fun hn => ?_⟩
  obtain ⟨e, -, q⟩ := h4 hn
  exact ⟨e, q⟩
theorem isLo.fr {h h' : Nat → Option zSh} {S S' : Nat → Nat → Int32} {ok ok' : Nat → Prop} {a n : Nat} {f : Nat → Nat} (hS : ∀ a, ok a → S' a = S a) (hh : ∀ a, ok a → h' a = h a) (hok : ∀ a, ok a → ok' a) (hL : isLo h S ok a n f) : isLo h' S' ok' a n f := by
  obtain ⟨h0, h1, h2, h3, h4⟩ := hL
  have ft : ∀ b, ok b → zt h' b = zt h b ∧ zn h' b = zn h b ∧ zr h' b = zr h b := fun b hb => by unfold zt zn zr; rw [hh b hb]; exact ⟨rfl, rfl, rfl⟩
  refine ⟨hok a h0, by rw [(ft a h0).1]; exact h1, by rw [hS a h0]; exact h2, h3, fun hn => ?_⟩
  obtain ⟨e, g1, g2, g3, g4, g5, g6⟩ := h4 hn
  exact ⟨e, hok e g1, by rw [(ft a h0).2.2]; exact g2, by rw [(ft e g1).1]; exact g3, by rw [(ft e g1).2.1]; exact g4, by rw [(ft e g1).2.1]; exact g5, fun i hi => by rw [(ft e g1).2.2]; exact g6 i hi⟩
/-- where a text's parts lie: four lists, the laws; corners, streets, young ones, words -/
abbrev zTA : Type := (Nat × Nat × Nat × Nat × Nat) × ((Nat → Nat) × (Nat → Nat) × (Nat → Nat) × (Nat → Nat))
def isTx (h : Nat → Option zSh) (S : Nat → Nat → Int32) (ok : Nat → Prop) (D ta : Nat) (t : ZT) (r0 : Nat → Int32) (A : zTA) : Prop :=
  (ok ta ∧ zt h ta = 24) ∧ (zr h ta 0 = some A.1.1 ∧ zr h ta 1 = some A.1.2.1 ∧ zr h ta 2 = some A.1.2.2.1 ∧ zr h ta 3 = some A.1.2.2.2.1 ∧ zr h ta 4 = some A.1.2.2.2.2) ∧
  (isLo h S ok A.1.1 (tnc t) A.2.1 ∧ isLo h S ok A.1.2.1 (tns t) A.2.2.1 ∧ isLo h S ok A.1.2.2.1 (tny t) A.2.2.2.1 ∧ isLo h S ok A.1.2.2.2.1 (tnw t) A.2.2.2.2) ∧
  (ok A.1.2.2.2.2 ∧ zt h A.1.2.2.2.2 = 6 ∧ zn h A.1.2.2.2.2 = 4) ∧
  (∀ s, s < tns t → ok (A.2.2.1 s) ∧ zt h (A.2.2.1 s) = 38 ∧ S (A.2.2.1 s) 0 = nI (tone t s) ∧ S (A.2.2.1 s) 1 = nI (toth t s) ∧ S (A.2.2.1 s) 2 = tlo t s ∧ tone t s < tnc t ∧ toth t s < tnc t ∧ tone t s ≠ toth t s) ∧
  (∀ y, y < tny t → ok (A.2.2.2.1 y) ∧ zt h (A.2.2.2.1 y) = 39 ∧ S (A.2.2.2.1 y) 1 = tag t y ∧ S (A.2.2.2.1 y) 2 = tte t y ∧ S (A.2.2.2.1 y) 3 = r0 y) ∧
  (∀ v, v < tnw t → ok (A.2.2.2.2 v) ∧ zt h (A.2.2.2.2 v) = 40 ∧ S (A.2.2.2.2 v) 1 = r0 (36 + v)) ∧
  (∀ k, k < 4 → (tlw t k = [] ∧ zr h A.1.2.2.2.2 k = none) ∨ ∃ a, zr h A.1.2.2.2.2 k = some a ∧ isLw h S ok D a (tlw t k)) ∧
  ((tnc t ≠ 0 → S ta 5 = r0 46) ∧ S ta 6 = tdr t ∧ S ta 7 = tsd t) ∧ (tnc t ≤ 7 ∧ tns t ≤ 10 ∧ tny t ≤ 6 ∧ tnw t ≤ 5)
section W1
variable {h : Nat → Option zSh} {S : Nat → Nat → Int32} {ok : Nat → Prop} {D ta : Nat} {t : ZT} {q0 : Nat → Int32} {A : zTA}
theorem isTx.k (hX : isTx h S ok D ta t q0 A) : zt h ta = 24 := hX.1.2
theorem isTx.r0 (hX : isTx h S ok D ta t q0 A) : zr h ta 0 = some A.1.1 := hX.2.1.1
theorem isTx.r1 (hX : isTx h S ok D ta t q0 A) : zr h ta 1 = some A.1.2.1 := hX.2.1.2.1
theorem isTx.r2 (hX : isTx h S ok D ta t q0 A) : zr h ta 2 = some A.1.2.2.1 := hX.2.1.2.2.1
theorem isTx.r3 (hX : isTx h S ok D ta t q0 A) : zr h ta 3 = some A.1.2.2.2.1 := hX.2.1.2.2.2.1
theorem isTx.r4 (hX : isTx h S ok D ta t q0 A) : zr h ta 4 = some A.1.2.2.2.2 := hX.2.1.2.2.2.2
theorem isTx.l0 (hX : isTx h S ok D ta t q0 A) : isLs h S A.1.1 (tnc t) A.2.1 := hX.2.2.1.1.ls
theorem isTx.l1 (hX : isTx h S ok D ta t q0 A) : isLs h S A.1.2.1 (tns t) A.2.2.1 := hX.2.2.1.2.1.ls
theorem isTx.l2 (hX : isTx h S ok D ta t q0 A) : isLs h S A.1.2.2.1 (tny t) A.2.2.2.1 := hX.2.2.1.2.2.1.ls
theorem isTx.l3 (hX : isTx h S ok D ta t q0 A) : isLs h S A.1.2.2.2.1 (tnw t) A.2.2.2.2 := hX.2.2.1.2.2.2.ls
theorem isTx.z0 (hX : isTx h S ok D ta t q0 A) : zt h A.1.1 = 29 := hX.l0.1
theorem isTx.z1 (hX : isTx h S ok D ta t q0 A) : zt h A.1.2.1 = 29 := hX.l1.1
theorem isTx.z2 (hX : isTx h S ok D ta t q0 A) : zt h A.1.2.2.1 = 29 := hX.l2.1
theorem isTx.z3 (hX : isTx h S ok D ta t q0 A) : zt h A.1.2.2.2.1 = 29 := hX.l3.1
theorem isTx.t4 (hX : isTx h S ok D ta t q0 A) : zt h A.1.2.2.2.2 = 6 := hX.2.2.2.1.2.1
theorem isTx.n4 (hX : isTx h S ok D ta t q0 A) : zn h A.1.2.2.2.2 = 4 := hX.2.2.2.1.2.2
theorem isTx.st (hX : isTx h S ok D ta t q0 A) {s : Nat} (hs : s < tns t) : ok (A.2.2.1 s) ∧ zt h (A.2.2.1 s) = 38 ∧ S (A.2.2.1 s) 0 = nI (tone t s) ∧ S (A.2.2.1 s) 1 = nI (toth t s) ∧ S (A.2.2.1 s) 2 = tlo t s ∧ tone t s < tnc t ∧ toth t s < tnc t ∧ tone t s ≠ toth t s := hX.2.2.2.2.1 s hs
theorem isTx.yo (hX : isTx h S ok D ta t q0 A) {y : Nat} (hy : y < tny t) : ok (A.2.2.2.1 y) ∧ zt h (A.2.2.2.1 y) = 39 ∧ S (A.2.2.2.1 y) 1 = tag t y ∧ S (A.2.2.2.1 y) 2 = tte t y ∧ S (A.2.2.2.1 y) 3 = q0 y := hX.2.2.2.2.2.1 y hy
theorem isTx.wo (hX : isTx h S ok D ta t q0 A) {v : Nat} (hv : v < tnw t) : ok (A.2.2.2.2 v) ∧ zt h (A.2.2.2.2 v) = 40 ∧ S (A.2.2.2.2 v) 1 = q0 (36 + v) := hX.2.2.2.2.2.2.1 v hv
theorem isTx.lw (hX : isTx h S ok D ta t q0 A) {k : Nat} (hk : k < 4) : (tlw t k = [] ∧ zr h A.1.2.2.2.2 k = none) ∨ ∃ a, zr h A.1.2.2.2.2 k = some a ∧ isLw h S ok D a (tlw t k) := hX.2.2.2.2.2.2.2.1 k hk
theorem isTx.g (hX : isTx h S ok D ta t q0 A) : (tnc t ≠ 0 → S ta 5 = q0 46) ∧ S ta 6 = tdr t ∧ S ta 7 = tsd t := hX.2.2.2.2.2.2.2.2.1
theorem isTx.b (hX : isTx h S ok D ta t q0 A) : tnc t ≤ 7 ∧ tns t ≤ 10 ∧ tny t ≤ 6 ∧ tnw t ≤ 5 := hX.2.2.2.2.2.2.2.2.2
theorem isTx.fr {h' : Nat → Option zSh} {S' : Nat → Nat → Int32} {ok' : Nat → Prop} (hS : ∀ a, ok a → S' a = S a) (hh : ∀ a, ok a → h' a = h a) (hok : ∀ a, ok a → ok' a) (hX : isTx h S ok D ta t q0 A) : isTx h' S' ok' D ta t q0 A := by
  obtain ⟨⟨h1, h2⟩, h3, ⟨i1, i2, i3, i4⟩, ⟨j1, j2, j3⟩, h4, h5, h6, h7, h8, h9⟩ := hX
  have ft : ∀ b, ok b → zt h' b = zt h b ∧ zn h' b = zn h b ∧ zr h' b = zr h b := fun b hb => by unfold zt zn zr; rw [hh b hb]; exact ⟨rfl, rfl, rfl⟩
  refine ⟨⟨hok ta h1, by rw [(ft ta h1).1]; exact h2⟩, by rw [(ft ta h1).2.2]; exact h3, ⟨i1.fr hS hh hok, i2.fr hS hh hok, i3.fr hS hh hok, i4.fr hS hh hok⟩, ⟨hok _ j1, by rw [(ft _ j1).1]; exact j2, by rw [(ft _ j1).2.1]; exact j3⟩, fun s hs => ?_, fun y hy => ?_, fun v hv => ?_, fun k hk => ?_, by rw [hS ta h1]; exact h8, h9⟩
  · obtain ⟨g1, g2, g3⟩ := h4 s hs
    exact ⟨hok _ g1, by rw [(ft _ g1).1]; exact g2, by rw [hS _ g1]; exact g3⟩
  · obtain ⟨g1, g2, g3⟩ := h5 y hy
    exact ⟨hok _ g1, by rw [(ft _ g1).1]; exact g2, by rw [hS _ g1]; exact g3⟩
  · obtain ⟨g1, g2, g3⟩ := h6 v hv
    exact ⟨hok _ g1, by rw [(ft _ g1).1]; exact g2, by rw [hS _ g1]; exact g3⟩
  · rw [(ft _ j1).2.2]
    rcases h7 k hk with q | ⟨a, q1, q2⟩
    · exact Or.inl q
    · exact Or.inr ⟨a, q1, q2.fr hS hh hok⟩
end W1
/-- a town w holds the row T of the text t -/
def tw (S : Nat → Nat → Int32) (w : Nat) (t : ZT) (sd : Int32) (T : Nat → Int32) : Prop :=
  (∀ y, y < 6 → S (w + 1) y = if y < tny t then T y else -1) ∧ (∀ y, y < 6 → S (w + 2) y = T (6 + y)) ∧ (∀ y, y < 6 → (S (w + 3) y = -1 ∧ T (24 + y) = nI 0) ∨ (S (w + 3) y = T (24 + y) ∧ nI 0 ≤ T (24 + y))) ∧ (∀ y, y < 6 → S (w + 4) y = T (18 + y)) ∧
  (∀ v, v < 5 → S (w + 5) v = T (36 + v) ∧ S (w + 6) v = T (41 + v)) ∧ S w 6 = homeR t T ∧ S w 7 = rougeR t T ∧ (tnc t ≠ 0 → S w 8 = T 46) ∧ S w 9 = T 47 ∧ S w 10 = sd
/-- what holds of a row -/
def rI (t : ZT) (T : Nat → Int32) : Prop := (∀ y, y < 6 → ∃ g, T (6 + y) = nI g ∧ g ≤ 999 ∧ (tny t ≤ y → g = 0)) ∧ (∀ v, v < 5 → ∃ q, T (36 + v) = nI q ∧ q ≤ 99) ∧ rowH t T ∧ rowG t T ∧ (∃ at', rowC t T at') ∧ ((tnc t ≠ 0 → ∃ c, c < tnc t ∧ T 46 = nI c) ∧ (tnc t = 0 → T 46 = -2)) ∧ (∃ hr, T 47 = nI hr ∧ hr < 2 ^ 30) ∧ ∀ j, 48 ≤ j → T j = nI 0
/-- nothing but the town w has changed -/
def twF (w : Nat) (S S' : Nat → Nat → Int32) : Prop := ∀ a, a < w ∨ w + 10 ≤ a → S' a = S a
