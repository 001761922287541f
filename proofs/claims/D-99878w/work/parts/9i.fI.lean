/-! the component's parser: what is told changes the text -/
section FI
variable {l : Launch} {E : zE} {z : Nat} {h : Nat → Option zSh} {S : Nat → Nat → Int32} {L : Nat → Nat → Int64} {c : Nat} {P : List Int32} {A : List zTk} {N : Nat} {q : zCu} {ta dE : Nat} {eA : Nat → Nat} {B B' : Nat → Nat → Nat} {x x' : zTx} {ok : Nat → Prop} {lA : Nat → Option Nat}
theorem txI.addC {w : List Nat} {v : Nat} (hi : txI h S ok B lA x) (hv : itC h S ok v w) (hB : ∀ j i, B' j i = if j = 0 ∧ i = xn x 0 then v else B j i) : txI h S ok B' lA (addC x w) := by
  obtain ⟨a1, a2, a3, a4, a5⟩ := hi
  refine ⟨fun i hi => ?_, fun i hi => ?_, fun i hi => ?_, fun i hi => ?_, a5⟩
  · have hi' : i < (xC x ++ [w]).length := hi
    rw [List.length_append, List.length_singleton] at hi'
    show itC h S ok (B' 0 i) ((xC x ++ [w]).getD i [])
    rw [hB, getD_snoc]
    by_cases e : i = (xC x).length
    · rw [if_pos ⟨rfl, e⟩, if_pos e]; exact hv
    · rw [if_neg (fun q => e q.2), if_neg e, if_pos (by omega)]; exact a1 i (by omega)
  · rw [hB, if_neg (fun q => by omega)]; exact a2 i hi
  · rw [hB, if_neg (fun q => by omega)]; exact a3 i hi
  · rw [hB, if_neg (fun q => by omega)]; exact a4 i hi
theorem txI.addS {w : Int32 × Int32 × Nat} {v : Nat} (hi : txI h S ok B lA x) (hv : itS h S ok v w) (hB : ∀ j i, B' j i = if j = 1 ∧ i = xn x 1 then v else B j i) : txI h S ok B' lA (addS x w) := by
  obtain ⟨a1, a2, a3, a4, a5⟩ := hi
  refine ⟨fun i hi => ?_, fun i hi => ?_, fun i hi => ?_, fun i hi => ?_, a5⟩
  · rw [hB, if_neg (fun q => by omega)]; exact a1 i hi
  · have hi' : i < (xS x ++ [w]).length := hi
    rw [List.length_append, List.length_singleton] at hi'
    show itS h S ok (B' 1 i) ((xS x ++ [w]).getD i s0)
    rw [hB, getD_snoc]
    by_cases e : i = (xS x).length
    · rw [if_pos ⟨rfl, e⟩, if_pos e]; exact hv
    · rw [if_neg (fun q => e q.2), if_neg e, if_pos (by omega)]; exact a2 i (by omega)
  · rw [hB, if_neg (fun q => by omega)]; exact a3 i hi
  · rw [hB, if_neg (fun q => by omega)]; exact a4 i hi
theorem txI.addY {w : List Nat × Nat × Nat × Int32} {v : Nat} (hi : txI h S ok B lA x) (hv : itY h S ok v w) (hB : ∀ j i, B' j i = if j = 2 ∧ i = xn x 2 then v else B j i) : txI h S ok B' lA (addY x w) := by
  obtain ⟨a1, a2, a3, a4, a5⟩ := hi
  refine ⟨fun i hi => ?_, fun i hi => ?_, fun i hi => ?_, fun i hi => ?_, a5⟩
  · rw [hB, if_neg (fun q => by omega)]; exact a1 i hi
  · rw [hB, if_neg (fun q => by omega)]; exact a2 i hi
  · have hi' : i < (xY x ++ [w]).length := hi
    rw [List.length_append, List.length_singleton] at hi'
    show itY h S ok (B' 2 i) ((xY x ++ [w]).getD i y0)
    rw [hB, getD_snoc]
    by_cases e : i = (xY x).length
    · rw [if_pos ⟨rfl, e⟩, if_pos e]; exact hv
    · rw [if_neg (fun q => e q.2), if_neg e, if_pos (by omega)]; exact a3 i (by omega)
  · rw [hB, if_neg (fun q => by omega)]; exact a4 i hi
theorem txI.addW {w : List Nat × Nat} {v : Nat} (hi : txI h S ok B lA x) (hv : itW h S ok v w) (hB : ∀ j i, B' j i = if j = 3 ∧ i = xn x 3 then v else B j i) : txI h S ok B' lA (addW x w) := by
  obtain ⟨a1, a2, a3, a4, a5⟩ := hi
  refine ⟨fun i hi => ?_, fun i hi => ?_, fun i hi => ?_, fun i hi => ?_, a5⟩
  · rw [hB, if_neg (fun q => by omega)]; exact a1 i hi
  · rw [hB, if_neg (fun q => by omega)]; exact a2 i hi
  · rw [hB, if_neg (fun q => by omega)]; exact a3 i hi
  · have hi' : i < (xW x ++ [w]).length := hi
    rw [List.length_append, List.length_singleton] at hi'
    show itW h S ok (B' 3 i) ((xW x ++ [w]).getD i w0)
    rw [hB, getD_snoc]
    by_cases e : i = (xW x).length
    · rw [if_pos ⟨rfl, e⟩, if_pos e]; exact hv
    · rw [if_neg (fun q => e q.2), if_neg e, if_pos (by omega)]; exact a4 i (by omega)
theorem txP.nw (hp : txP z h S ta dE eA B x) {a z' : Nat} (h1 : z ≤ a) (h2 : a < z') : txd ta z' eA x a := ⟨by have := hp.2.2.2.2.1; omega, h2, fun k hk h0 => by have := hp.2.2.2.2.2.1 k hk h0; omega⟩
/-- a number of the text is set -/
theorem txP.setG {S' : Nat → Nat → Int32} {g : Int32 × Nat × Nat} (hp : txP z h S ta dE eA B x) (hS : ∀ a, a ≠ ta → S' a = S a) (hg : S' ta 5 = g.1 ∧ S' ta 6 = nI g.2.1 ∧ S' ta 7 = nI g.2.2) : txP z h S' ta dE eA B (setG x g) := by
  obtain ⟨a, b, d, e, f, f2, f3⟩ := hp
  refine ⟨a, fun k hk => ?_, ?_, hg, f, f2, f3⟩
  · obtain ⟨b1, b2, b3, b4, b5⟩ := b k hk
    exact ⟨b1, by rw [hS _ (by omega)]; exact b2, b3, b4, b5⟩
  · have : txI h S' (txd ta z eA x) B (zr h (ta + 5)) x := d.fr (fun y hy => hS y (by have := hy.1; omega)) (fun _ _ => rfl) (fun _ hy => hy)
    exact this
/-- a law of the text is set -/
theorem txP.setA {k a : Nat} {law : List zBr3} (hk : k < 4) (hp : txP z h S ta dE eA B x) (hl : isLw h S (txd ta z eA x) 400 a law) : txP z (zur h (ta + 5) k (some a)) S ta dE eA B (setA x k law) := by
  obtain ⟨⟨a1, a2, a3, a4, a5⟩, b, d, e, f, f2, f3⟩ := hp
  have hu : ∀ y, txd ta z eA x y → zur h (ta + 5) k (some a) y = h y := fun y hy => zur_ne (by have := hy.1; omega)
  have hne : ∀ k, k < 4 → xn x k ≠ 0 → eA k ≠ ta + 5 := fun k hk h0 => by have := f2 k hk h0; omega
  refine ⟨⟨by rw [zur_t]; exact a1, fun j hj => by rw [zur_ro (by omega)]; exact a2 j hj, by rw [zur_ro (by omega)]; exact a3, by rw [zur_t]; exact a4, by rw [zur_n]; exact a5⟩, fun j hj => ?_, ?_, e, f, f2, f3⟩
  · obtain ⟨b1, b2, b3, b4, b5⟩ := b j hj
    refine ⟨by rw [zur_t]; exact b1, b2, b3, fun h0 => by rw [zur_ro (by omega)]; exact b4 h0, fun h0 => ?_⟩
    obtain ⟨c1, c2, c3, c4⟩ := b5 h0
    exact ⟨by rw [zur_ro (by omega)]; exact c1, by rw [zur_t]; exact c2, by rw [zur_n]; exact c3, fun i hi => by rw [zur_ro (hne j hj h0)]; exact c4 i hi⟩
  · obtain ⟨d1, d2, d3, d4, d5⟩ := d.fr (S' := S) (h' := zur h (ta + 5) k (some a)) (fun _ _ => rfl) hu (fun _ hy => hy)
    refine ⟨d1, d2, d3, d4, fun j hj => ?_⟩
    show ((if j = k then law else xA x j) = [] ∧ _) ∨ ∃ a', _ ∧ isLw _ _ _ 400 a' (if j = k then law else xA x j)
    by_cases ej : j = k
    · subst ej
      rw [if_pos rfl]
      exact Or.inr ⟨a, zur_rs, hl.fr (fun _ _ => rfl) hu (fun _ hy => hy)⟩
    · rw [if_neg ej, zur_rk ej]; exact d5 j hj
def xB (x : zTx) : Prop := (xC x).length ≤ 7 ∧ (xS x).length ≤ 10 ∧ (xY x).length ≤ 6 ∧ (xW x).length ≤ 5
def tdQ (h : Nat → Option zSh) (S : Nat → Nat → Int32) (L : Nat → Nat → Int64) (c N ta dE : Nat) (res : zPR zPX) : Option Value → zX → Prop := fun r X => r = none ∧ ∃ x' q' z' h' S' L' eA' B', res = .ok (x', q') ∧ X = (z', h', S', L') ∧ pG c (ta, h, S, L) (z', h', S', L') ∧ pI c S' N q' 0 ∧ txP z' h' S' ta dE eA' B' x' ∧ xB x'
/-- where a thing told begins -/
def tdX (E : zE) (c z : Nat) (h : Nat → Option zSh) (S : Nat → Nat → Int32) (P : List Int32) (A : List zTk) (N ta dE : Nat) (eA : Nat → Nat) (B : Nat → Nat → Nat) (x : zTx) : Prop := (csZ E ∧ seN E ∧ dfZ E dE) ∧ pX c z h S P A N ∧ zr h (c + 9) 2 = some ta ∧ c + 606 ≤ ta ∧ txP z h S ta dE eA B x ∧ xB x
/-- what a frame of 'told' owes -/
def tdV (V : zV) (h : Nat → Option zSh) (S : Nat → Nat → Int32) (L : Nat → Nat → Int64) (E : zE) (c N ta dE : Nat) (q : zCu) (res : zPR zPX) : Prop := (V.2.1 = E ∧ V.2.2.1 = 120) ∧ (V.2.2.2.1 = 6 * (mx res - q.1) ∧ V.2.2.2.2.1 = 40 * (mx res - q.1)) ∧ (∀ r X, tdQ h S L c N ta dE res r X → V.2.2.2.2.2.1 r X) ∧ ∀ a X, exT ta h S L c res a X → V.2.2.2.2.2.2 a X
theorem tdV.err {V : zV} {res : zPR zPX} (hV : tdV V h S L E c N ta dE q res) (ls : List (Option Value)) {e : zFt} {z' : Nat} {h' : Nat → Option zSh} {S' : Nat → Nat → Int32} {L' : Nat → Nat → Int64} (hR : res = .error e) {k n : Nat} (hk : k ≤ 6 * (401 - q.1)) (hn : n ≤ 40 * (401 - q.1)) (g : pG c (ta, h, S, L) (z', h', S', L')) (f : cE c S' e) : zOut V ls (c + 1) (z', h', S', L') k n := by
  obtain ⟨-, ⟨v1, v2⟩, -, v3⟩ := hV
  have hm : mx res = 401 := by rw [hR]; rfl
  exact ⟨v3 _ _ ⟨e, z', h', S', L', hR, rfl, rfl, g, f⟩, by rw [v1, hm]; exact hk, by rw [v2, hm]; exact hn⟩
theorem tdV.fin {V : zV} {res : zPR zPX} (hV : tdV V h S L E c N ta dE q res) {q' : zCu} {z' : Nat} {h' : Nat → Option zSh} {S' : Nat → Nat → Int32} {L' : Nat → Nat → Int64} {eA' : Nat → Nat} (hR : res = .ok (x', q')) {k n : Nat} (hk : k ≤ 6 * (q'.1 - q.1)) (hn : n ≤ 40 * (q'.1 - q.1)) (g : pG c (ta, h, S, L) (z', h', S', L')) (p : pI c S' N q' 0) (t : txP z' h' S' ta dE eA' B' x') (b : xB x') : V.2.2.2.2.2.1 none (z', h', S', L') ∧ k ≤ V.2.2.2.1 ∧ n ≤ V.2.2.2.2.1 := by
  obtain ⟨-, ⟨v1, v2⟩, v3, -⟩ := hV
  have hm : mx res = q'.1 := by rw [hR]; rfl
  exact ⟨v3 _ _ ⟨rfl, x', q', z', h', S', L', eA', B', hR, rfl, g, p, t, b⟩, by rw [v1, hm]; exact hk, by rw [v2, hm]; exact hn⟩
end FI
