theorem zswg {x : Int32} {Ks : List zK} {Kd : zK} {ls : List (Option Value)} {r : List Value} {X : zX} {k n lo : Nat} (hlo : lo < 1000) (hl : Ks.length < 1000) (h : ∀ (i : Nat) (K : zK), Ks[i]? = some K → x = nI (lo + i) → K ls r X k n) (hd : (∀ j, lo ≤ j → j < lo + Ks.length → x ≠ nI j) → Kd ls r X k n) : oTsw (lo : Int) Ks Kd ls (.int x :: r) X k n := by
  refine ⟨fun i K hK hx => h i K hK ?_, fun hx => hd (fun j hj hj2 e => ?_)⟩
  · have hi : i < Ks.length := (List.getElem?_eq_some_iff.mp hK).1
    obtain ⟨q, hq, rfl⟩ : ∃ q : Nat, q < 2 ^ 31 ∧ x = nI q := nI_of (by rw [Int32.lt_iff_toInt_lt]; simp; omega)
    rw [nI_toInt hq] at hx
    have : q = lo + i := by omega
    rw [this]
  · rw [e, nI_toInt (by omega)] at hx
    omega
theorem zsw0_4 {x : Int32} {K0 K1 K2 K3 Kd : zK} {ls : List (Option Value)} {r : List Value} {X : zX} {k n : Nat} (h0 : x = nI 0 → K0 ls r X k n) (h1 : x = nI 1 → K1 ls r X k n) (h2 : x = nI 2 → K2 ls r X k n) (h3 : x = nI 3 → K3 ls r X k n) (hd : (∀ j, j < 4 → x ≠ nI j) → Kd ls r X k n) : oTsw 0 [K0, K1, K2, K3] Kd ls (.int x :: r) X k n := by
  refine zswg (lo := 0) (by omega) (by simp) (fun i K hi hx => ?_) (fun q => hd (fun j hj => q j (by omega) (by simp; omega)))
  rw [Nat.zero_add] at hx
  match i, hi with
  | 0, hi => cases hi; exact h0 hx
  | 1, hi => cases hi; exact h1 hx
  | 2, hi => cases hi; exact h2 hx
  | 3, hi => cases hi; exact h3 hx
  | i + 4, hi => simp at hi
theorem zsw0_5 {x : Int32} {K0 K1 K2 K3 K4 Kd : zK} {ls : List (Option Value)} {r : List Value} {X : zX} {k n : Nat} (h0 : x = nI 0 → K0 ls r X k n) (h1 : x = nI 1 → K1 ls r X k n) (h2 : x = nI 2 → K2 ls r X k n) (h3 : x = nI 3 → K3 ls r X k n) (h4 : x = nI 4 → K4 ls r X k n) (hd : (∀ j, j < 5 → x ≠ nI j) → Kd ls r X k n) : oTsw 0 [K0, K1, K2, K3, K4] Kd ls (.int x :: r) X k n := by
  refine zswg (lo := 0) (by omega) (by simp) (fun i K hi hx => ?_) (fun q => hd (fun j hj => q j (by omega) (by simp; omega)))
  rw [Nat.zero_add] at hx
  match i, hi with
  | 0, hi => cases hi; exact h0 hx
  | 1, hi => cases hi; exact h1 hx
  | 2, hi => cases hi; exact h2 hx
  | 3, hi => cases hi; exact h3 hx
  | 4, hi => cases hi; exact h4 hx
  | i + 5, hi => simp at hi
theorem zsw0_10 {x : Int32} {K0 K1 K2 K3 K4 K5 K6 K7 K8 K9 Kd : zK} {ls : List (Option Value)} {r : List Value} {X : zX} {k n : Nat} (h0 : x = nI 0 → K0 ls r X k n) (h1 : x = nI 1 → K1 ls r X k n) (h2 : x = nI 2 → K2 ls r X k n) (h3 : x = nI 3 → K3 ls r X k n) (h4 : x = nI 4 → K4 ls r X k n) (h5 : x = nI 5 → K5 ls r X k n) (h6 : x = nI 6 → K6 ls r X k n) (h7 : x = nI 7 → K7 ls r X k n) (h8 : x = nI 8 → K8 ls r X k n) (h9 : x = nI 9 → K9 ls r X k n) (hd : (∀ j, j < 10 → x ≠ nI j) → Kd ls r X k n) : oTsw 0 [K0, K1, K2, K3, K4, K5, K6, K7, K8, K9] Kd ls (.int x :: r) X k n := by
  refine zswg (lo := 0) (by omega) (by simp) (fun i K hi hx => ?_) (fun q => hd (fun j hj => q j (by omega) (by simp; omega)))
  rw [Nat.zero_add] at hx
  match i, hi with
  | 0, hi => cases hi; exact h0 hx
  | 1, hi => cases hi; exact h1 hx
  | 2, hi => cases hi; exact h2 hx
  | 3, hi => cases hi; exact h3 hx
  | 4, hi => cases hi; exact h4 hx
  | 5, hi => cases hi; exact h5 hx
  | 6, hi => cases hi; exact h6 hx
  | 7, hi => cases hi; exact h7 hx
  | 8, hi => cases hi; exact h8 hx
  | 9, hi => cases hi; exact h9 hx
  | i + 10, hi => simp at hi
theorem zsw0_21 {x : Int32} {K0 K1 K2 K3 K4 K5 K6 K7 K8 K9 K10 K11 K12 K13 K14 K15 K16 K17 K18 K19 K20 Kd : zK} {ls : List (Option Value)} {r : List Value} {X : zX} {k n : Nat} (h0 : x = nI 0 → K0 ls r X k n) (h1 : x = nI 1 → K1 ls r X k n) (h2 : x = nI 2 → K2 ls r X k n) (h3 : x = nI 3 → K3 ls r X k n) (h4 : x = nI 4 → K4 ls r X k n) (h5 : x = nI 5 → K5 ls r X k n) (h6 : x = nI 6 → K6 ls r X k n) (h7 : x = nI 7 → K7 ls r X k n) (h8 : x = nI 8 → K8 ls r X k n) (h9 : x = nI 9 → K9 ls r X k n) (h10 : x = nI 10 → K10 ls r X k n) (h11 : x = nI 11 → K11 ls r X k n) (h12 : x = nI 12 → K12 ls r X k n) (h13 : x = nI 13 → K13 ls r X k n) (h14 : x = nI 14 → K14 ls r X k n) (h15 : x = nI 15 → K15 ls r X k n) (h16 : x = nI 16 → K16 ls r X k n) (h17 : x = nI 17 → K17 ls r X k n) (h18 : x = nI 18 → K18 ls r X k n) (h19 : x = nI 19 → K19 ls r X k n) (h20 : x = nI 20 → K20 ls r X k n) (hd : (∀ j, j < 21 → x ≠ nI j) → Kd ls r X k n) : oTsw 0 [K0, K1, K2, K3, K4, K5, K6, K7, K8, K9, K10, K11, K12, K13, K14, K15, K16, K17, K18, K19, K20] Kd ls (.int x :: r) X k n := by
  refine zswg (lo := 0) (by omega) (by simp) (fun i K hi hx => ?_) (fun q => hd (fun j hj => q j (by omega) (by simp; omega)))
  rw [Nat.zero_add] at hx
  match i, hi with
  | 0, hi => cases hi; exact h0 hx
  | 1, hi => cases hi; exact h1 hx
  | 2, hi => cases hi; exact h2 hx
  | 3, hi => cases hi; exact h3 hx
  | 4, hi => cases hi; exact h4 hx
  | 5, hi => cases hi; exact h5 hx
  | 6, hi => cases hi; exact h6 hx
  | 7, hi => cases hi; exact h7 hx
  | 8, hi => cases hi; exact h8 hx
  | 9, hi => cases hi; exact h9 hx
  | 10, hi => cases hi; exact h10 hx
  | 11, hi => cases hi; exact h11 hx
  | 12, hi => cases hi; exact h12 hx
  | 13, hi => cases hi; exact h13 hx
  | 14, hi => cases hi; exact h14 hx
  | 15, hi => cases hi; exact h15 hx
  | 16, hi => cases hi; exact h16 hx
  | 17, hi => cases hi; exact h17 hx
  | 18, hi => cases hi; exact h18 hx
  | 19, hi => cases hi; exact h19 hx
  | 20, hi => cases hi; exact h20 hx
  | i + 21, hi => simp at hi
theorem zsw0_40 {x : Int32} {K0 K1 K2 K3 K4 K5 K6 K7 K8 K9 K10 K11 K12 K13 K14 K15 K16 K17 K18 K19 K20 K21 K22 K23 K24 K25 K26 K27 K28 K29 K30 K31 K32 K33 K34 K35 K36 K37 K38 K39 Kd : zK} {ls : List (Option Value)} {r : List Value} {X : zX} {k n : Nat} (h0 : x = nI 0 → K0 ls r X k n) (h1 : x = nI 1 → K1 ls r X k n) (h2 : x = nI 2 → K2 ls r X k n) (h3 : x = nI 3 → K3 ls r X k n) (h4 : x = nI 4 → K4 ls r X k n) (h5 : x = nI 5 → K5 ls r X k n) (h6 : x = nI 6 → K6 ls r X k n) (h7 : x = nI 7 → K7 ls r X k n) (h8 : x = nI 8 → K8 ls r X k n) (h9 : x = nI 9 → K9 ls r X k n) (h10 : x = nI 10 → K10 ls r X k n) (h11 : x = nI 11 → K11 ls r X k n) (h12 : x = nI 12 → K12 ls r X k n) (h13 : x = nI 13 → K13 ls r X k n) (h14 : x = nI 14 → K14 ls r X k n) (h15 : x = nI 15 → K15 ls r X k n) (h16 : x = nI 16 → K16 ls r X k n) (h17 : x = nI 17 → K17 ls r X k n) (h18 : x = nI 18 → K18 ls r X k n) (h19 : x = nI 19 → K19 ls r X k n) (h20 : x = nI 20 → K20 ls r X k n) (h21 : x = nI 21 → K21 ls r X k n) (h22 : x = nI 22 → K22 ls r X k n) (h23 : x = nI 23 → K23 ls r X k n) (h24 : x = nI 24 → K24 ls r X k n) (h25 : x = nI 25 → K25 ls r X k n) (h26 : x = nI 26 → K26 ls r X k n) (h27 : x = nI 27 → K27 ls r X k n) (h28 : x = nI 28 → K28 ls r X k n) (h29 : x = nI 29 → K29 ls r X k n) (h30 : x = nI 30 → K30 ls r X k n) (h31 : x = nI 31 → K31 ls r X k n) (h32 : x = nI 32 → K32 ls r X k n) (h33 : x = nI 33 → K33 ls r X k n) (h34 : x = nI 34 → K34 ls r X k n) (h35 : x = nI 35 → K35 ls r X k n) (h36 : x = nI 36 → K36 ls r X k n) (h37 : x = nI 37 → K37 ls r X k n) (h38 : x = nI 38 → K38 ls r X k n) (h39 : x = nI 39 → K39 ls r X k n) (hd : (∀ j, j < 40 → x ≠ nI j) → Kd ls r X k n) : oTsw 0 [K0, K1, K2, K3, K4, K5, K6, K7, K8, K9, K10, K11, K12, K13, K14, K15, K16, K17, K18, K19, K20, K21, K22, K23, K24, K25, K26, K27, K28, K29, K30, K31, K32, K33, K34, K35, K36, K37, K38, K39] Kd ls (.int x :: r) X k n := by
  refine zswg (lo := 0) (by omega) (by simp) (fun i K hi hx => ?_) (fun q => hd (fun j hj => q j (by omega) (by simp; omega)))
  rw [Nat.zero_add] at hx
  match i, hi with
  | 0, hi => cases hi; exact h0 hx
  | 1, hi => cases hi; exact h1 hx
  | 2, hi => cases hi; exact h2 hx
  | 3, hi => cases hi; exact h3 hx
  | 4, hi => cases hi; exact h4 hx
  | 5, hi => cases hi; exact h5 hx
  | 6, hi => cases hi; exact h6 hx
  | 7, hi => cases hi; exact h7 hx
  | 8, hi => cases hi; exact h8 hx
  | 9, hi => cases hi; exact h9 hx
  | 10, hi => cases hi; exact h10 hx
  | 11, hi => cases hi; exact h11 hx
  | 12, hi => cases hi; exact h12 hx
  | 13, hi => cases hi; exact h13 hx
  | 14, hi => cases hi; exact h14 hx
  | 15, hi => cases hi; exact h15 hx
  | 16, hi => cases hi; exact h16 hx
  | 17, hi => cases hi; exact h17 hx
  | 18, hi => cases hi; exact h18 hx
  | 19, hi => cases hi; exact h19 hx
  | 20, hi => cases hi; exact h20 hx
  | 21, hi => cases hi; exact h21 hx
  | 22, hi => cases hi; exact h22 hx
  | 23, hi => cases hi; exact h23 hx
  | 24, hi => cases hi; exact h24 hx
  | 25, hi => cases hi; exact h25 hx
  | 26, hi => cases hi; exact h26 hx
  | 27, hi => cases hi; exact h27 hx
  | 28, hi => cases hi; exact h28 hx
  | 29, hi => cases hi; exact h29 hx
  | 30, hi => cases hi; exact h30 hx
  | 31, hi => cases hi; exact h31 hx
  | 32, hi => cases hi; exact h32 hx
  | 33, hi => cases hi; exact h33 hx
  | 34, hi => cases hi; exact h34 hx
  | 35, hi => cases hi; exact h35 hx
  | 36, hi => cases hi; exact h36 hx
  | 37, hi => cases hi; exact h37 hx
  | 38, hi => cases hi; exact h38 hx
  | 39, hi => cases hi; exact h39 hx
  | i + 40, hi => simp at hi
