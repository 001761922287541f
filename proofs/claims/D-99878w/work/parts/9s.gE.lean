/-! the component: the tokens are made -/
section GE
variable {l : Launch} {E : zE} {z : Nat} {h : Nat → Option zSh} {S : Nat → Nat → Int32} {L : Nat → Nat → Int64} {a : Nat} {adK : Nat → Nat}
theorem zX2_init (hz : a + 1 = z) (ht : zt h a = 22) (hk : kwR E adK) : zM l E 1 YX2_init [.ref a] (z, h, S, L) 6 10027 (fun r X => r = none ∧ ∃ h' S' L', X = (a + 7, h', S', L') ∧ zt h' a = 22 ∧ (∀ q ∈ [(0, 1), (1, 2), (3, 3), (4, 4), (5, 5), (6, 6)], zr h' a q.1 = some (a + q.2)) ∧ (∀ q ∈ [(1, 5, 23), (2, 1, 2000), (3, 1, 2001), (4, 3, 2001), (5, 3, 2001), (6, 3, 2001)], zt h' (a + q.1) = q.2.1 ∧ zn h' (a + q.1) = q.2.2) ∧ (∀ k, k < 23 → zr h' (a + 1) k = some (adK k)) ∧ (∀ b, b < a → h' b = h b) ∧ ∀ b, b ≤ a → S' b = S b ∧ L' b = L b) (fun _ _ => False) := by
  subst hz
  refine zM.go rfl rfl (Nat.le_of_ble_eq_true rfl) (ls := [some (.ref a)]) rfl ?_
  intro V hVl hVE hVd hVc hVs hVQ hVX
  rw [← hVE] at hk
  obtain ⟨⟨k0, k1, k2, k3, k4, k5, k6, k7, k8, k9, k10, k11, k12, k13, k14, k15, k16, k17, k18, k19, k20, k21, k22⟩, hs⟩ := hk
  have s0 := hs 0 (by omega)
  have s1 := hs 1 (by omega)
  have s2 := hs 2 (by omega)
  have s3 := hs 3 (by omega)
  have s4 := hs 4 (by omega)
  have s5 := hs 5 (by omega)
  have s6 := hs 6 (by omega)
  have s7 := hs 7 (by omega)
  have s8 := hs 8 (by omega)
  have s9 := hs 9 (by omega)
  have s10 := hs 10 (by omega)
  have s11 := hs 11 (by omega)
  have s12 := hs 12 (by omega)
  have s13 := hs 13 (by omega)
  have s14 := hs 14 (by omega)
  have s15 := hs 15 (by omega)
  have s16 := hs 16 (by omega)
  have s17 := hs 17 (by omega)
  have s18 := hs 18 (by omega)
  have s19 := hs 19 (by omega)
  have s20 := hs 20 (by omega)
  have s21 := hs 21 (by omega)
  have s22 := hs 22 (by omega)
  have hp23 : (nI 23 < (0 : Int32)) = False := eq_false (by decide)
  have hp20 : (nI 2000 < (0 : Int32)) = False := eq_false (by decide)
  have hp21 : (nI 2001 < (0 : Int32)) = False := eq_false (by decide)
  refine sX2_init_0 (by omega) (a12 := adK 0) (a17 := adK 1) (a22 := adK 2) (a27 := adK 3) (a32 := adK 4) (a37 := adK 5) (a43 := adK 6) (a49 := adK 7) (a55 := adK 8) (a61 := adK 9) (a67 := adK 10) (a73 := adK 11) (a79 := adK 12) (a85 := adK 13) (a91 := adK 14) (a97 := adK 15) (a103 := adK 16) (a109 := adK 17) (a115 := adK 18) (a121 := adK 19) (a127 := adK 20) (a133 := adK 21) (a139 := adK 22) _ _ _ _ _ ?_
  simp (disch := omega) only [oAld, oAst9o, oDup, oLdcS, oNewa, oObj, oPR, oPush, oRV, ht, hp23, hp20, hp21, hVc, hVs, k0, k1, k2, k3, k4, k5, k6, k7, k8, k9, k10, k11, k12, k13, k14, k15, k16, k17, k18, k19, k20, k21, k22, s0, s1, s2, s3, s4, s5, s6, s7, s8, s9, s10, s11, s12, s13, s14, s15, s16, s17, s18, s19, s20, s21, s22, List.getElem?_cons_zero, List.getElem?_cons_succ, List.set_cons_zero, List.set_cons_succ, List.drop_succ_cons, List.drop_zero, List.take_succ_cons, List.take_zero, List.length_cons, List.length_nil, List.reverse_cons, List.reverse_nil, List.nil_append, List.cons_append, Option.toList_some, Option.toList_none, va_rf_s, true_and, and_true, true_implies, false_implies, not_true_eq_false, not_false_eq_true, Nat.reduceAdd, Nat.reduceLeDiff, Nat.le_add_left, Nat.zero_le, Nat.le_refl, true_or, or_true, b01_t, b01_f, b01_ok, bool_ft, vp_b01, vp_b0, vp_b1, b01_eq0, b01_eq1, implies_true, zneq, hN_ts, hN_to, hN_ns, hN_no, hN_rs, hN_ro, SN_s, SN_o, zur_t, zur_n, zur_rs, zur_rk, zur_ro, nI_add, nI_clamp, zi_in, zi_le_t, zi_le_f, zi_lt_t, zi_lt_f, zi_eq_t, zi_eq_f, nI_leI, nI_ltI, nI_eq, z_in, pk_mul, zu_same, zu_rw, zu_ix, zi_ne0, zi_sub, zi_m1, Nat.add_sub_cancel, Nat.reduceMul, Nat.reduceSub]
  simp only [Nat.add_assoc, Nat.reduceAdd]
  refine hVQ _ _ ⟨rfl, _, _, _, rfl, ?_, fun q hq => ?_, fun q hq => ?_, fun k hk => ?_, fun b hb => ?_, fun b hb => ⟨?_, ?_⟩⟩
  · simp (disch := omega) only [zur_t, zur_n, zur_rs, zur_rk, zur_ro, hN_ts, hN_to, hN_ns, hN_no, hN_rs, hN_ro, va_rf_s]
    exact ht
  · simp only [List.mem_cons, List.not_mem_nil, or_false] at hq
    rcases hq with rfl | rfl | rfl | rfl | rfl | rfl <;> simp (disch := omega) only [zur_t, zur_n, zur_rs, zur_rk, zur_ro, hN_ts, hN_to, hN_ns, hN_no, hN_rs, hN_ro, va_rf_s]
  · simp only [List.mem_cons, List.not_mem_nil, or_false] at hq
    rcases hq with rfl | rfl | rfl | rfl | rfl | rfl <;> simp (disch := omega) only [zur_t, zur_n, zur_rs, zur_rk, zur_ro, hN_ts, hN_to, hN_ns, hN_no, hN_rs, hN_ro, va_rf_s] <;> exact ⟨trivial, trivial⟩
  · have : k = 0 ∨ k = 1 ∨ k = 2 ∨ k = 3 ∨ k = 4 ∨ k = 5 ∨ k = 6 ∨ k = 7 ∨ k = 8 ∨ k = 9 ∨ k = 10 ∨ k = 11 ∨ k = 12 ∨ k = 13 ∨ k = 14 ∨ k = 15 ∨ k = 16 ∨ k = 17 ∨ k = 18 ∨ k = 19 ∨ k = 20 ∨ k = 21 ∨ k = 22 := by omega
    rcases this with rfl | rfl | rfl | rfl | rfl | rfl | rfl | rfl | rfl | rfl | rfl | rfl | rfl | rfl | rfl | rfl | rfl | rfl | rfl | rfl | rfl | rfl | rfl <;> simp (disch := omega) only [zur_t, zur_n, zur_rs, zur_rk, zur_ro, hN_ts, hN_to, hN_ns, hN_no, hN_rs, hN_ro, va_rf_s]
  · simp (disch := omega) only [zur_ne, hN_o]
  · simp (disch := omega) only [SN_o]
  · simp (disch := omega) only [LN_o]
end GE
