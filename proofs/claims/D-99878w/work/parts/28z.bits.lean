def bt (x : Int32) (i : Nat) : Bool := x.toBitVec.getLsbD i
theorem b_ext {x y : Int32} (h : ∀ i, i < 32 → bt x i = bt y i) : x = y := Int32.toBitVec_inj.mp (BitVec.eq_of_getLsbD_eq (fun i hi => h i hi))
theorem b_or (x y : Int32) (i : Nat) : bt (x ||| y) i = (bt x i || bt y i) := by unfold bt; rw [Int32.toBitVec_or, BitVec.getLsbD_or]
theorem b_and (x y : Int32) (i : Nat) : bt (x &&& y) i = (bt x i && bt y i) := by unfold bt; rw [Int32.toBitVec_and, BitVec.getLsbD_and]
theorem b_xor (x y : Int32) (i : Nat) : bt (x ^^^ y) i = (bt x i ^^ bt y i) := by unfold bt; rw [Int32.toBitVec_xor, BitVec.getLsbD_xor]
theorem b_big {x : Int32} {i : Nat} (h : 32 ≤ i) : bt x i = false := BitVec.getLsbD_of_ge _ _ h
theorem b_255 (i : Nat) : bt 255 i = decide (i < 8) := by
  rcases Nat.lt_or_ge i 32 with h | h
  · exact (by decide +kernel : ∀ i, i < 32 → bt 255 i = decide (i < 8)) i h
  · rw [b_big h, decide_eq_false (by omega)]
theorem b_65535 (i : Nat) : bt 65535 i = decide (i < 16) := by
  rcases Nat.lt_or_ge i 32 with h | h
  · exact (by decide +kernel : ∀ i, i < 32 → bt 65535 i = decide (i < 16)) i h
  · rw [b_big h, decide_eq_false (by omega)]
theorem b_m1 : ∀ i, i < 32 → bt (-1) i = true := by decide +kernel
theorem b_0 (i : Nat) : bt 0 i = false := BitVec.getLsbD_zero
theorem s_l : ∀ n, n < 32 → ((nI n &&& 31).toBitVec.smod 32).toNat = n := by decide +kernel
theorem s_u : ∀ n, n < 32 → (((nI n).toUInt32 &&& Int32.toUInt32 31).toBitVec % 32).toNat = n := by decide +kernel
theorem b_shl (n : Nat) (hn : n < 32) (x : Int32) {i : Nat} (hi : i < 32) : bt (x <<< (nI n &&& 31)) i = (decide (n ≤ i) && bt x (i - n)) := by
  unfold bt
  rw [Int32.toBitVec_shiftLeft]
  show (x.toBitVec <<< ((nI n &&& 31).toBitVec.smod 32).toNat).getLsbD i = _
  rw [s_l n hn, BitVec.getLsbD_shiftLeft]
  rcases Nat.lt_or_ge i n with h | h
  · simp [h, Nat.not_le.mpr h]
  · simp [hi, h, Nat.not_lt.mpr h]
theorem b_ushr (n : Nat) (hn : n < 32) (x : Int32) (i : Nat) : bt ((x.toUInt32 >>> ((nI n).toUInt32 &&& Int32.toUInt32 31)).toInt32) i = bt x (n + i) := by
  show (x.toUInt32 >>> ((nI n).toUInt32 &&& Int32.toUInt32 31)).toBitVec.getLsbD i = x.toUInt32.toBitVec.getLsbD (n + i)
  rw [UInt32.toBitVec_shiftRight]
  show (x.toUInt32.toBitVec >>> (((nI n).toUInt32 &&& Int32.toUInt32 31).toBitVec % 32).toNat).getLsbD i = _
  rw [s_u n hn, BitVec.getLsbD_ushiftRight]
theorem b_sshr (n : Nat) (hn : n < 32) (x : Int32) {i : Nat} (hi : i < 32) : bt (x >>> (nI n &&& 31)) i = if n + i < 32 then bt x (n + i) else bt x 31 := by
  unfold bt
  rw [Int32.toBitVec_shiftRight]
  show (x.toBitVec.sshiftRight ((nI n &&& 31).toBitVec.smod 32).toNat).getLsbD i = _
  rw [s_l n hn, BitVec.getLsbD_sshiftRight, BitVec.msb_eq_getLsbD_last]
  simp [hi]
theorem nx_and (a b : Nat) : nI a &&& nI b = nI (a &&& b) := by
  apply Int32.toBitVec_inj.1
  show BitVec.ofNat 32 a &&& BitVec.ofNat 32 b = BitVec.ofNat 32 (a &&& b)
  apply BitVec.eq_of_getLsbD_eq
  intro i hi
  simp [hi]
theorem nx_xor (a b : Nat) : nI a ^^^ nI b = nI (a ^^^ b) := by
  apply Int32.toBitVec_inj.1
  show BitVec.ofNat 32 a ^^^ BitVec.ofNat 32 b = BitVec.ofNat 32 (a ^^^ b)
  apply BitVec.eq_of_getLsbD_eq
  intro i hi
  simp [hi]
/-! own rows on bits -/
theorem bt_nI (n : Nat) {i : Nat} (hi : i < 32) : bt (nI n) i = n.testBit i := by
  unfold bt
  show (BitVec.ofNat 32 n).getLsbD i = _
  rw [BitVec.getLsbD_ofNat]; simp [hi]
theorem bt_nI0 (i : Nat) : bt (nI 0) i = false := b_0 i
theorem bt_1 : ∀ i, i < 32 → bt (nI 1) i = decide (i = 0) := by decide +kernel
theorem bt_bitF {s i : Nat} (hs : s < 32) (hi : i < 32) : bt (bitF s) i = decide (i = s) := by
  unfold bitF
  rw [b_shl s hs _ hi]
  by_cases h : s ≤ i
  · rw [bt_1 _ (by omega), decide_eq_true h, Bool.true_and]
    by_cases h2 : i = s
    · rw [decide_eq_true h2, decide_eq_true (by omega)]
    · rw [decide_eq_false h2, decide_eq_false (by omega)]
  · rw [decide_eq_false h, Bool.false_and, decide_eq_false (by omega)]
theorem bt_not (x : Int32) {i : Nat} (hi : i < 32) : bt (x ^^^ (-1)) i = !bt x i := by
  rw [b_xor, b_m1 i hi]; cases bt x i <;> rfl
theorem b_one (x : Int32) {s : Nat} (hs : s < 32) : (x >>> (nI s &&& 31)) &&& nI 1 = if bt x s = true then nI 1 else nI 0 := by
  apply b_ext
  intro i hi
  rw [b_and, bt_1 i hi, b_sshr s hs _ hi]
  by_cases h0 : i = 0
  · subst h0
    rw [if_pos (by omega), Nat.add_zero]
    cases hb : bt x s with
    | false => rw [if_neg (by decide), bt_nI0]; rfl
    | true => rw [if_pos rfl, bt_1 0 (by omega)]; rfl
  · rw [decide_eq_false h0, Bool.and_false]
    cases hb : bt x s with
    | false => rw [if_neg (by decide), bt_nI0]
    | true => rw [if_pos rfl, bt_1 i hi, decide_eq_false h0]
theorem b_one1 (x : Int32) {s : Nat} (hs : s < 32) : ((x >>> (nI s &&& 31)) &&& nI 1 = nI 1) = (bt x s = true) := by
  rw [b_one x hs]
  cases bt x s with
  | false => exact propext ⟨fun h => absurd h (by decide), fun h => by cases h⟩
  | true => exact propext ⟨fun _ => rfl, fun _ => rfl⟩
theorem b_one0 (x : Int32) {s : Nat} (hs : s < 32) : ((x >>> (nI s &&& 31)) &&& nI 1 = nI 0) = (bt x s = false) := by
  rw [b_one x hs]
  cases bt x s with
  | false => exact propext ⟨fun _ => rfl, fun _ => rfl⟩
  | true => exact propext ⟨fun h => absurd h (by decide), fun h => by cases h⟩
theorem bt_setF (p : Nat → Bool) : ∀ {n i : Nat}, n ≤ 32 → i < 32 → bt (setF p n) i = (decide (i < n) && p i)
  | 0, i, _, _ => by rw [setF, bt_nI0, decide_eq_false (by omega)]; rfl
  | n + 1, i, hn, hi => by
    have ih := bt_setF p (n := n) (i := i) (by omega) hi
    by_cases hp : p n = true
    · rw [setF_t hp, b_or, ih, bt_bitF (by omega) hi]
      by_cases h : i = n
      · subst h; rw [hp, decide_eq_true (by omega : i < i + 1)]; simp
      · rw [decide_eq_false h, Bool.or_false]
        by_cases h2 : i < n
        · rw [decide_eq_true h2, decide_eq_true (by omega)]
        · rw [decide_eq_false h2, decide_eq_false (by omega)]
    · rw [setF_f hp, ih]
      by_cases h : i = n
      · subst h
        have : p i = false := by simpa using hp
        rw [this, Bool.and_false, Bool.and_false]
      · by_cases h2 : i < n
        · rw [decide_eq_true h2, decide_eq_true (by omega)]
        · rw [decide_eq_false h2, decide_eq_false (by omega)]
theorem i_eq0 (x : Int32) : x = nI 0 ↔ ∀ i, i < 32 → bt x i = false := by
  constructor
  · rintro rfl i _; exact bt_nI0 i
  · intro h; exact b_ext (fun i hi => by rw [h i hi, bt_nI0])
theorem nx_or (a b : Nat) : nI a ||| nI b = nI (a ||| b) := by
  apply Int32.toBitVec_inj.1
  show BitVec.ofNat 32 a ||| BitVec.ofNat 32 b = BitVec.ofNat 32 (a ||| b)
  apply BitVec.eq_of_getLsbD_eq
  intro i hi
  simp [hi]
theorem bitF_N {s : Nat} (hs : s < 32) : bitF s = nI (2 ^ s) := by
  apply b_ext
  intro i hi
  rw [bt_bitF hs hi, bt_nI _ hi, Nat.testBit_two_pow]
  by_cases h : s = i
  · rw [decide_eq_true h, decide_eq_true h.symm]
  · rw [decide_eq_false h, decide_eq_false (fun q => h q.symm)]
/-- the set as a number -/
def setN (p : Nat → Bool) : Nat → Nat
  | 0 => 0
  | n + 1 => if p n = true then setN p n ||| 2 ^ n else setN p n
theorem setF_N (p : Nat → Bool) : ∀ {n : Nat}, n ≤ 32 → setF p n = nI (setN p n)
  | 0, _ => rfl
  | n + 1, hn => by
    rw [setF, setN, setF_N p (by omega), bitF_N (by omega), nx_or]
    split <;> rfl
theorem setN_lt (p : Nat → Bool) : ∀ n : Nat, setN p n < 2 ^ n
  | 0 => Nat.zero_lt_one
  | n + 1 => by
    have := setN_lt p n
    rw [setN]
    split
    · exact Nat.or_lt_two_pow (by omega) (Nat.pow_lt_pow_right (by omega) (by omega))
    · omega
theorem setN_bit (p : Nat → Bool) : ∀ (n i : Nat), (setN p n).testBit i = (decide (i < n) && p i)
  | 0, i => by simp [setN]
  | n + 1, i => by
    have ih := setN_bit p n i
    rw [setN]
    by_cases hp : p n = true
    · rw [if_pos hp, Nat.testBit_or, ih, Nat.testBit_two_pow]
      by_cases h : i = n
      · subst h; simp [hp]
      · rw [show decide (n = i) = false from decide_eq_false (fun q => h q.symm), Bool.or_false]
        by_cases h2 : i < n
        · rw [decide_eq_true h2, decide_eq_true (by omega)]
        · rw [decide_eq_false h2, decide_eq_false (by omega)]
    · rw [if_neg hp, ih]
      by_cases h : i = n
      · subst h
        have : p i = false := by simpa using hp
        rw [this, Bool.and_false, Bool.and_false]
      · by_cases h2 : i < n
        · rw [decide_eq_true h2, decide_eq_true (by omega)]
        · rw [decide_eq_false h2, decide_eq_false (by omega)]
def cntN (p : Nat → Bool) : Nat → Nat
  | 0 => 0
  | n + 1 => if p n = true then cntN p n + 1 else cntN p n
theorem cntN_le (p : Nat → Bool) : ∀ n, cntN p n ≤ n
  | 0 => Nat.le_refl _
  | n + 1 => by have := cntN_le p n; rw [cntN]; split <;> omega
theorem bitsF_N (x : Int32) : ∀ {n : Nat}, n ≤ 32 → bitsF n x = nI (cntN (bt x) n)
  | 0, _ => rfl
  | n + 1, hn => by
    rw [bitsF, cntN, bitsF_N x (by omega), b_one x (by omega)]
    split
    · rw [nI_add]
    · rw [nI_add, Nat.add_zero]
