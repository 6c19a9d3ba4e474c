set_option maxRecDepth 100000
theorem gcI_nat (g : Nat → Nat) {x y : Nat} (hx : x < 24) (hy : y < 24) : gcI g ((x : Nat) : Int) ((y : Nat) : Int) = (g y).testBit x := by
  unfold gcI
  rw [decide_eq_true (show 0 ≤ ((x : Nat) : Int) ∧ ((x : Nat) : Int) ≤ 23 from by omega), decide_eq_true (show 0 ≤ ((y : Nat) : Int) ∧ ((y : Nat) : Int) ≤ 23 from by omega)]
  rfl
