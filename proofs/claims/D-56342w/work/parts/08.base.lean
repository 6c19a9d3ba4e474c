/-! MY OWN LAYER: ints as integers, a walk's judgement with a budget of cells, heap pictures that speak of addresses -/
set_option maxRecDepth 100000
def iZ (z : Int) : Int32 := Int32.ofInt z
theorem iZ_add (a b : Int) : iZ a + iZ b = iZ (a + b) := Int32.toBitVec_inj.mp (by simp [iZ, BitVec.ofInt_add])
theorem iZ_neg (a : Int) : - iZ a = iZ (-a) := Int32.neg_ofInt
theorem iZ_sub (a b : Int) : iZ a - iZ b = iZ (a - b) := by
  rw [Int32.sub_eq_add_neg, iZ_neg, iZ_add, Int.sub_eq_add_neg]
theorem iZ_mul (a b : Int) : iZ a * iZ b = iZ (a * b) := Int32.toBitVec_inj.mp (by simp [iZ, BitVec.ofInt_mul])
theorem iZ_toInt {a : Int} (h : -2147483648 ≤ a ∧ a ≤ 2147483647) : (iZ a).toInt = a := Int32.toInt_ofInt_of_le h.1 (by omega)
theorem iZ_nat (n : Nat) : iZ (n : Int) = nI n := Int32.ofInt_eq_ofNat
theorem iZ_of (x : Int32) : ∃ a : Int, x = iZ a ∧ -2147483648 ≤ a ∧ a ≤ 2147483647 := ⟨x.toInt, (Int32.ofInt_toInt x).symm, by have := Int32.le_toInt x; omega, by have := Int32.toInt_lt x; omega⟩
theorem iZ_inj {a b : Int} (ha : -2147483648 ≤ a ∧ a ≤ 2147483647) (hb : -2147483648 ≤ b ∧ b ≤ 2147483647) : iZ a = iZ b ↔ a = b :=
  ⟨fun h => by rw [← iZ_toInt ha, h, iZ_toInt hb], fun h => by rw [h]⟩
theorem iZ_lt {a b : Int} (ha : -2147483648 ≤ a ∧ a ≤ 2147483647) (hb : -2147483648 ≤ b ∧ b ≤ 2147483647) : iZ a < iZ b ↔ a < b := by
  rw [Int32.lt_iff_toInt_lt, iZ_toInt ha, iZ_toInt hb]
theorem iZ_le {a b : Int} (ha : -2147483648 ≤ a ∧ a ≤ 2147483647) (hb : -2147483648 ≤ b ∧ b ≤ 2147483647) : iZ a ≤ iZ b ↔ a ≤ b := by
  rw [Int32.le_iff_toInt_le, iZ_toInt ha, iZ_toInt hb]
theorem iZ_clamp {a : Int} (h : 0 ≤ a ∧ a ≤ 2147483647) : (iZ a).toNatClampNeg = a.toNat := Int32.toNatClampNeg_ofInt_of_le (by omega) (by omega)
theorem iZ_0 : iZ 0 = 0 := by decide +kernel
theorem iZ_in {a : Int} {n : Nat} (h : 0 ≤ a ∧ a < n) (hn : n ≤ 2147483647) : vp_in (iZ a) n := by
  rw [vp_in_iff, iZ_toInt (by omega)]; exact h
theorem iZ_bv (n : Nat) : (iZ (n : Int)).toBitVec = BitVec.ofNat 32 n := by
  rw [iZ, Int32.toBitVec_ofInt]; exact BitVec.ofInt_natCast 32 n
theorem iZ_and (a b : Nat) : iZ (a : Int) &&& iZ (b : Int) = iZ ((a &&& b : Nat) : Int) := by
  apply Int32.toBitVec_inj.mp
  rw [Int32.toBitVec_and, iZ_bv, iZ_bv, iZ_bv]
  apply BitVec.eq_of_toNat_eq
  simp [Nat.and_mod_two_pow]
theorem iZ_or (a b : Nat) : iZ (a : Int) ||| iZ (b : Int) = iZ ((a ||| b : Nat) : Int) := by
  apply Int32.toBitVec_inj.mp
  rw [Int32.toBitVec_or, iZ_bv, iZ_bv, iZ_bv]
  apply BitVec.eq_of_toNat_eq
  simp [Nat.or_mod_two_pow]
theorem iZ_xor (a b : Nat) : iZ (a : Int) ^^^ iZ (b : Int) = iZ ((a ^^^ b : Nat) : Int) := by
  apply Int32.toBitVec_inj.mp
  rw [Int32.toBitVec_xor, iZ_bv, iZ_bv, iZ_bv]
  apply BitVec.eq_of_toNat_eq
  simp [Nat.xor_mod_two_pow]
theorem iZ_k32 {k : Nat} (hk : k < 32) : ((iZ (k : Int)).toBitVec.smod 32).toNat = k := by
  have h : ∀ i : Fin 32, ((iZ ((i.val : Nat) : Int)).toBitVec.smod 32).toNat = i.val := by decide +kernel
  exact h ⟨k, hk⟩
theorem iZ_shl (a : Nat) {k : Nat} (hk : k < 32) : iZ (a : Int) <<< iZ (k : Int) = iZ ((a <<< k : Nat) : Int) := by
  apply Int32.toBitVec_inj.mp
  apply BitVec.eq_of_toNat_eq
  rw [pk_shl _ _ k (iZ_k32 hk), iZ_bv, iZ_bv, BitVec.toNat_ofNat, BitVec.toNat_ofNat, Nat.shiftLeft_eq]
  rw [Nat.mod_mul_mod]
theorem iZ_shr {a : Int} {k : Nat} (ha : -2147483648 ≤ a ∧ a ≤ 2147483647) (hk : k < 32) : iZ a >>> iZ (k : Int) = iZ (a >>> k) := by
  apply Int32.toInt_inj.mp
  rw [pk_shr _ _ k (iZ_k32 hk), iZ_toInt ha, iZ_toInt]
  rw [Int.shiftRight_eq_div_pow]
  have h1 : (0 : Int) < ((2 ^ k : Nat) : Int) := by exact_mod_cast Nat.two_pow_pos k
  constructor
  · rcases Int.lt_or_le a 0 with h | h
    · have h2 : a ≤ a / ((2 ^ k : Nat) : Int) := by
        rw [Int.le_ediv_iff_mul_le h1]
        have h3 := Int.mul_le_mul_of_nonneg_right (show a ≤ 0 by omega) (show 0 ≤ ((2 ^ k : Nat) : Int) - 1 by omega)
        rw [Int.mul_sub, Int.mul_one] at h3
        omega
      omega
    · have := Int.ediv_nonneg h (Int.le_of_lt h1); omega
  · rcases Int.lt_or_le a 0 with h | h
    · have := Int.ediv_neg_of_neg_of_pos h h1; omega
    · have := Int.ediv_le_self ((2 ^ k : Nat) : Int) h; omega
theorem iZ_shrN {a k : Nat} (ha : a < 2147483648) (hk : k < 32) : iZ (a : Int) >>> iZ (k : Int) = iZ ((a >>> k : Nat) : Int) := by
  rw [iZ_shr (by omega) hk]; rfl
theorem iZ_not (a : Int) : iZ a ^^^ iZ (-1) = iZ (-1 - a) := by
  have h : ∀ x : BitVec 32, x ^^^ BitVec.ofInt 32 (-1) = BitVec.ofInt 32 (-1) - x := by
    intro x
    have e : BitVec.ofInt 32 (-1) = BitVec.allOnes 32 := by decide +kernel
    rw [e, BitVec.xor_allOnes, BitVec.allOnes_sub_eq_not]
  apply Int32.toBitVec_inj.mp
  rw [Int32.toBitVec_xor, iZ, iZ, Int32.toBitVec_ofInt, Int32.toBitVec_ofInt, h]
  rw [← iZ_sub]
  rfl
/-! more of ints: bytes, booleans, longs, quotients -/
def lZ (z : Int) : Int64 := Int64.ofInt z
def bI (b : Bool) : Int := if b then 1 else 0
theorem lZ_add (a b : Int) : lZ a + lZ b = lZ (a + b) := Int64.toBitVec_inj.mp (by simp [lZ, BitVec.ofInt_add])
theorem lZ_mul (a b : Int) : lZ a * lZ b = lZ (a * b) := Int64.toBitVec_inj.mp (by simp [lZ, BitVec.ofInt_mul])
theorem lZ_toInt {a : Int} (h : -9223372036854775808 ≤ a ∧ a ≤ 9223372036854775807) : (lZ a).toInt = a := Int64.toInt_ofInt_of_le h.1 (by omega)
theorem iZ_lZ {a : Int} (h : -2147483648 ≤ a ∧ a ≤ 2147483647) : (iZ a).toInt64 = lZ a := by
  apply Int64.toInt_inj.mp
  rw [Int32.toInt_toInt64, iZ_toInt h, lZ_toInt (by omega)]
theorem lZ_iZ (a : Int) : (lZ a).toInt32 = iZ a := Int64.toInt32_ofInt
theorem pb_r0 : (-2147483648 : Int) ≤ 0 ∧ (0 : Int) ≤ 2147483647 := by decide
theorem bI_0 {b : Bool} : iZ (bI b) = 0 ↔ b = false := by cases b <;> simp [bI, iZ_0] <;> decide +kernel
theorem bI_1 {b : Bool} : ¬ iZ (bI b) = 0 ↔ b = true := by cases b <;> simp [bI, iZ_0] <;> decide +kernel
theorem pb_i8 {n : Int} (h : -128 ≤ n ∧ n ≤ 127) : (Int8.ofInt n).toInt32 = iZ n := by
  apply Int32.toInt_inj.mp
  rw [Int8.toInt_toInt32, Int8.toInt_ofInt_of_le (by omega) (by omega), iZ_toInt (by omega)]
theorem pb_i16 {n : Int} (h : -32768 ≤ n ∧ n ≤ 32767) : (Int16.ofInt n).toInt32 = iZ n := by
  apply Int32.toInt_inj.mp
  rw [Int16.toInt_toInt32, Int16.toInt_ofInt_of_le (by omega) (by omega), iZ_toInt (by omega)]
theorem iZ_31 {k : Nat} (hk : k < 32) : iZ (k : Int) &&& 31 = iZ (k : Int) := by
  have h : ∀ i : Fin 32, iZ ((i.val : Nat) : Int) &&& 31 = iZ ((i.val : Nat) : Int) := by decide +kernel
  exact h ⟨k, hk⟩
def pb_dif (x y : Nat) : Nat := x ^^^ (x &&& y)
theorem pb_dif_bit (x y i : Nat) : (pb_dif x y).testBit i = (x.testBit i && !y.testBit i) := by
  rw [pb_dif, Nat.testBit_xor, Nat.testBit_and]
  cases x.testBit i <;> cases y.testBit i <;> rfl
theorem iZ_dif (x y : Nat) : iZ (x : Int) &&& iZ (-1 - (y : Int)) = iZ ((pb_dif x y : Nat) : Int) := by
  rw [← iZ_not, pb_dif, ← iZ_xor, ← iZ_and]
  apply Int32.toBitVec_inj.mp
  have e : (iZ (-1)).toBitVec = BitVec.allOnes 32 := by decide +kernel
  rw [Int32.toBitVec_and, Int32.toBitVec_xor, Int32.toBitVec_xor, Int32.toBitVec_and, e]
  apply BitVec.eq_of_getLsbD_eq
  intro i hi
  simp only [BitVec.getLsbD_and, BitVec.getLsbD_xor, BitVec.getLsbD_allOnes, hi, decide_true]
  cases (iZ (x : Int)).toBitVec.getLsbD i <;> cases (iZ (y : Int)).toBitVec.getLsbD i <;> rfl
theorem iZ_ne0 {y : Int} (hy : -2147483648 ≤ y ∧ y ≤ 2147483647) (h : y ≠ 0) : ¬ iZ y = 0 := fun z => h ((iZ_inj hy pb_r0).mp (z.trans iZ_0.symm))
theorem iZ_div {x y : Int} (hx : -2147483648 < x ∧ x ≤ 2147483647) (hy : -2147483648 ≤ y ∧ y ≤ 2147483647) : iZ x / iZ y = iZ (x.tdiv y) := by
  have hb : -2147483648 ≤ x.tdiv y ∧ x.tdiv y ≤ 2147483647 := by
    have h1 : (x.tdiv y).natAbs ≤ x.natAbs := by rw [Int.natAbs_tdiv]; exact Nat.div_le_self _ _
    omega
  apply Int32.toInt_inj.mp
  rw [iZ_toInt hb, Int32.toInt_div_of_ne_left, iZ_toInt (by omega), iZ_toInt hy]
  intro h
  have := congrArg Int32.toInt h
  rw [iZ_toInt (by omega)] at this
  rw [this] at hx
  exact absurd hx.1 (by decide)
theorem iZ_rem {x y : Int} (hx : -2147483648 < x ∧ x ≤ 2147483647) (hy : -2147483648 ≤ y ∧ y ≤ 2147483647) (h0 : y ≠ 0) : iZ x - iZ x / iZ y * iZ y = iZ (x.tmod y) := by
  rw [iZ_div hx hy, iZ_mul, iZ_sub]
  congr 1
  have := Int.tmod_add_mul_tdiv x y
  rw [Int.mul_comm] at this
  omega
