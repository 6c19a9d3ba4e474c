set_option maxRecDepth 100000
def bc1 (n : Nat) : Nat := n - ((n >>> 1) &&& 1431655765)
def bc2 (n : Nat) : Nat := (n &&& 858993459) + ((n >>> 2) &&& 858993459)
def bc3 (n : Nat) : Nat := (n + (n >>> 4)) &&& 252645135
def bc4 (n : Nat) : Nat := n + (n >>> 8)
def bc5 (n : Nat) : Nat := n + (n >>> 16)
def bcN (n : Nat) : Nat := bc5 (bc4 (bc3 (bc2 (bc1 n)))) &&& 63
theorem bc1_le (n : Nat) : bc1 n ≤ n := Nat.sub_le _ _
theorem bc2_le (n : Nat) : bc2 n ≤ 2 * n := by
  unfold bc2
  have h1 := Nat.and_le_left (n := n) (m := 858993459)
  have h2 := Nat.and_le_left (n := n >>> 2) (m := 858993459)
  have h3 := Nat.shiftRight_le n 2
  omega
theorem bc3_le (n : Nat) : bc3 n ≤ 2 * n := by
  unfold bc3
  have h1 := Nat.and_le_left (n := n + (n >>> 4)) (m := 252645135)
  have h3 := Nat.shiftRight_le n 4
  omega
theorem bc4_le (n : Nat) : bc4 n ≤ 2 * n := by
  unfold bc4
  have h3 := Nat.shiftRight_le n 8
  omega
theorem bc5_le (n : Nat) : bc5 n ≤ 2 * n := by
  unfold bc5
  have h3 := Nat.shiftRight_le n 16
  omega
def tzS (t s : Nat) (q : Nat × Nat) : Nat × Nat := if t < q.1 then (q.1 >>> s, q.2 + s) else q
theorem tzS_y {t s v c : Nat} (h : t < v) : tzS t s (v, c) = (v >>> s, c + s) := if_pos h
theorem tzS_n {t s v c : Nat} (h : ¬ t < v) : tzS t s (v, c) = (v, c) := if_neg h
def tzQ (x : Nat) : Nat × Nat := tzS 4 2 (tzS 16 4 (tzS 256 8 (tzS 65536 16 (x, 1))))
def tzN (n : Nat) : Nat := if pb_dif (n - 1) n = 0 then 0 else (tzQ (pb_dif (n - 1) n)).2 + ((tzQ (pb_dif (n - 1) n)).1 >>> 1)
theorem pb_dif_le (x y : Nat) : pb_dif x y ≤ x := by
  have h : pb_dif x y &&& x = pb_dif x y := by
    apply Nat.eq_of_testBit_eq
    intro i
    rw [Nat.testBit_and, pb_dif_bit]
    cases x.testBit i <;> cases y.testBit i <;> rfl
  rw [← h]; exact Nat.and_le_right
/-- a boxed number -/
def Bx (w : pb_W) (H : Heap) (b : Nat) (x : Int) : Prop := pb_R w H b 17 [.int (iZ x)]
