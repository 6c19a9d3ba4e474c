set_option maxRecDepth 100000
/-! THE REFERENCE's cells: the object at o, its twelve arrays behind it -/
/-- ints (thrown, points, outlines, corners), arrays of bits (rows, made, spread, ground, walked), arrays of ints (pathX, pathY, far, cornersX, cornersY, begins, areas) -/
abbrev mS : Type := (Nat → Int) × (Nat → Nat → Nat) × (Nat → Nat → Int)
def mI (S : mS) (k : Nat) (v : Int) : mS := (va_up S.1 k v, S.2.1, S.2.2)
def mB (S : mS) (k : Nat) (f : Nat → Nat) : mS := (S.1, va_up S.2.1 k f, S.2.2)
def mC (S : mS) (k : Nat) (f : Nat → Int) : mS := (S.1, S.2.1, va_up S.2.2 k f)
abbrev pb_nf (f : Nat → Nat) : Nat → Value := fun j => .int (iZ ((f j : Nat) : Int))
abbrev pb_zf (f : Nat → Int) : Nat → Value := fun j => .int (iZ (f j))
def MW (w : pb_W) (H : Heap) (o : Nat) (S : mS) : Prop := w.2.2.2 ≤ o ∧ pb_O w H o 2 [.int (iZ (S.1 0)), .int (iZ (S.1 1)), .ref (o + 1), .ref (o + 2), .ref (o + 3), .ref (o + 4), .ref (o + 5), .ref (o + 6), .ref (o + 7), .ref (o + 8), .ref (o + 9), .ref (o + 10), .ref (o + 11), .ref (o + 12), .int (iZ (S.1 2)), .int (iZ (S.1 3))] ∧
  pb_A w H (o + 1) 0 192 (pb_nf (S.2.1 0)) ∧ pb_A w H (o + 2) 0 24 (pb_nf (S.2.1 1)) ∧ pb_A w H (o + 3) 0 26 (pb_nf (S.2.1 2)) ∧ pb_A w H (o + 4) 0 26 (pb_nf (S.2.1 3)) ∧ pb_A w H (o + 5) 0 40 (pb_zf (S.2.2 0)) ∧ pb_A w H (o + 6) 0 40 (pb_zf (S.2.2 1)) ∧ pb_A w H (o + 7) 0 576 (pb_zf (S.2.2 2)) ∧
  pb_A w H (o + 8) 0 1300 (pb_zf (S.2.2 3)) ∧ pb_A w H (o + 9) 0 1300 (pb_zf (S.2.2 4)) ∧ pb_A w H (o + 10) 0 400 (pb_zf (S.2.2 5)) ∧ pb_A w H (o + 11) 0 400 (pb_zf (S.2.2 6)) ∧ pb_A w H (o + 12) 0 625 (pb_nf (S.2.1 4))
/-- the reference's cells alone may have changed -/
def mF (o : Nat) (H H1 : Heap) : Prop := H1.size = H.size ∧ ∀ q : Nat, q < o ∨ o + 13 ≤ q → H1[q]? = H[q]?
theorem mF.rf {o : Nat} {H : Heap} : mF o H H := ⟨rfl, fun _ _ => rfl⟩
theorem mF.up {o a : Nat} {H H1 H2 : Heap} (h : mF o H H1) (u : pb_Up a H1 H2) (ha : o ≤ a ∧ a < o + 13) : mF o H H2 := ⟨u.1.trans h.1, fun q hq => (u.2 q (by omega)).trans (h.2 q hq)⟩
theorem mF.tr {o : Nat} {H H1 H2 : Heap} (h : mF o H H1) (h2 : mF o H1 H2) : mF o H H2 := ⟨h2.1.trans h.1, fun q hq => (h2.2 q hq).trans (h.2 q hq)⟩
theorem mF.z {o z : Nat} {H H1 : Heap} (h : mF o H H1) (hz : z ≤ o) : pb_F (fun q => q < z) H H1 := ⟨Nat.le_of_eq h.1.symm, fun q _ hq => h.2 q (Or.inl (by omega))⟩
theorem pb_upN (f : Nat → Nat) (k v : Nat) : updV (pb_nf f) k (.int (iZ ((v : Nat) : Int))) = pb_nf (va_up f k v) := by
  funext j
  by_cases h : j = k
  · simp [updV, va_up, h]
  · simp [updV, va_up, h]
theorem pb_upZ (f : Nat → Int) (k : Nat) (v : Int) : updV (pb_zf f) k (.int (iZ v)) = pb_zf (va_up f k v) := by
  funext j
  by_cases h : j = k
  · simp [updV, va_up, h]
  · simp [updV, va_up, h]
/-! grids: 24 rows of bits -/
/-- the sheet s as a grid -/
def mg (S : mS) (s : Nat) : Nat → Nat := fun y => if y < 24 then S.2.1 0 (24 * s + y) else 0
/-- a row at any height -/
def gr (g : Nat → Nat) (y : Int) : Nat := if 0 ≤ y then g y.toNat else 0
/-- a cell at any place -/
def gc (g : Nat → Nat) (x y : Int) : Bool := decide (0 ≤ x) && (gr g y).testBit x.toNat
/-- 24 rows of 24 bits -/
def gok (g : Nat → Nat) : Prop := (∀ y, g y < 16777216) ∧ ∀ y, 24 ≤ y → g y = 0
def mok (S : mS) : Prop := ∀ j, j < 192 → S.2.1 0 j < 16777216
theorem mg_ok {S : mS} (h : mok S) {s : Nat} (hs : s < 8) : gok (mg S s) := by
  refine ⟨fun y => ?_, fun y hy => by rw [mg, if_neg (by omega)]⟩
  unfold mg
  split
  · exact h _ (by omega)
  · decide
theorem gr_lt {g : Nat → Nat} (h : gok g) (y : Int) : gr g y < 16777216 := by
  unfold gr
  split
  · exact h.1 _
  · decide
theorem pb_bit (n k : Nat) : ((n >>> k) &&& 1 : Nat) = if n.testBit k then 1 else 0 := by
  rw [Nat.testBit, Nat.and_comm]
  have h : (n >>> k) &&& 1 = 0 ∨ (n >>> k) &&& 1 = 1 := by
    rw [Nat.and_one_is_mod]; omega
  rw [Nat.and_comm 1]
  rcases h with h | h <;> rw [h] <;> simp
/-- the number of ones -/
def pop : Nat → Nat → Nat
  | 0, _ => 0
  | k + 1, n => (if n.testBit k then 1 else 0) + pop k n
theorem pop_zero (k : Nat) : pop k 0 = 0 := by
  induction k with
  | zero => rfl
  | succ k ih => simp [pop, ih]
theorem pop_succ (k n : Nat) : pop (k + 1) n = n % 2 + pop k (n / 2) := by
  induction k with
  | zero => simp [pop, Nat.testBit_zero]; rcases Nat.mod_two_eq_zero_or_one n with h | h <;> simp [h]
  | succ k ih =>
    rw [pop, ih, Nat.testBit_succ, pop]
    omega
theorem pop_clear (k : Nat) : ∀ n : Nat, 0 < n → n < 2 ^ k → pop k (n &&& (n - 1)) + 1 = pop k n := by
  induction k with
  | zero => intro n h0 h1; simp at h1; omega
  | succ k ih =>
    intro n h0 h1
    rw [pop_succ, pop_succ, Nat.and_div_two]
    have hm : (n &&& (n - 1)) % 2 = n % 2 &&& (n - 1) % 2 := Nat.and_mod_two_pow (n := 1)
    rcases Nat.mod_two_eq_zero_or_one n with h | h
    · have e1 : (n - 1) / 2 = n / 2 - 1 := by omega
      have e2 : (n - 1) % 2 = 1 := by omega
      have := ih (n / 2) (by omega) (by rw [Nat.pow_succ] at h1; omega)
      rw [hm, h, e1, e2]
      simp
      omega
    · have e1 : (n - 1) / 2 = n / 2 := by omega
      have e2 : (n - 1) % 2 = 0 := by omega
      rw [hm, h, e1, e2, Nat.and_self]
      simp
      omega
theorem and_pred_lt {n : Nat} (h : 0 < n) : n &&& (n - 1) < n := Nat.lt_of_le_of_lt Nat.and_le_right (by omega)
theorem gr_of {g : Nat → Nat} {y : Int} {k : Nat} (h : y = (k : Int)) : gr g y = g k := by rw [gr, if_pos (by omega)]; congr 1; omega
theorem gr_in {S : mS} {s : Nat} {y : Int} (h : 0 ≤ y ∧ y ≤ 23) : S.2.1 0 (((24 * s : Nat) : Int) + y).toNat = gr (mg S s) y := by
  rw [gr, if_pos h.1, mg, if_pos (by omega), show (((24 * s : Nat) : Int) + y).toNat = 24 * s + y.toNat from by omega]
theorem gr_out {S : mS} {s : Nat} {y : Int} (h : ¬ (0 ≤ y ∧ y ≤ 23)) : gr (mg S s) y = 0 := by
  rw [gr, mg]
  split
  · rw [if_neg (by omega)]
  · rfl
theorem gc_eq (g : Nat → Nat) {x y : Int} (hx : 0 ≤ x ∧ x ≤ 23) : gc g x y = decide ((((gr g y) >>> x.toNat &&& 1 : Nat) : Int) = 1) := by
  rw [gc, decide_eq_true hx.1, Bool.true_and, pb_bit]
  cases (gr g y).testBit x.toNat <;> rfl
theorem gc_out {g : Nat → Nat} (h : gok g) {x y : Int} (hc : ¬ ((0 ≤ x ∧ x ≤ 23) ∧ 0 ≤ y ∧ y ≤ 23)) : gc g x y = false := by
  unfold gc
  by_cases hx : 0 ≤ x
  · by_cases hx2 : x ≤ 23
    · have hy : ¬ (0 ≤ y ∧ y ≤ 23) := fun z => hc ⟨⟨hx, hx2⟩, z⟩
      have : gr g y = 0 := by
        unfold gr
        split
        · exact h.2 _ (by omega)
        · rfl
      rw [this, Nat.zero_testBit, Bool.and_false]
    · rw [Nat.testBit_lt_two_pow (Nat.lt_of_lt_of_le (gr_lt h y) (Nat.le_trans (by decide : 16777216 ≤ 2 ^ 24) (Nat.pow_le_pow_right (by decide) (by omega)))), Bool.and_false]
  · rw [decide_eq_false hx, Bool.false_and]
/-- sums over a range -/
def sm (f : Nat → Nat) : Nat → Nat
  | 0 => 0
  | k + 1 => sm f k + f k
def cnt (g : Nat → Nat) : Nat := sm (fun y => pop 32 (g y)) 24
theorem pop_le (k n : Nat) : pop k n ≤ k := by
  induction k with
  | zero => exact Nat.le_refl _
  | succ k ih => unfold pop; split <;> omega
theorem sm_le {f : Nat → Nat} {c : Nat} (h : ∀ i, f i ≤ c) (k : Nat) : sm f k ≤ k * c := by
  induction k with
  | zero => simp [sm]
  | succ k ih => have := h k; rw [sm, Nat.succ_mul]; omega
/-- the sheet s with new rows from lo to hi -/
def rowsF (S : mS) (s lo hi : Nat) (φ : Nat → Nat) : Nat → Nat := fun j => if 24 * s + lo ≤ j ∧ j < 24 * s + hi then φ (j - 24 * s) else S.2.1 0 j
theorem rowsF_0 (S : mS) (s lo : Nat) (φ : Nat → Nat) : rowsF S s lo lo φ = S.2.1 0 := by
  funext j
  rw [rowsF, if_neg (by omega)]
theorem rowsF_at (S : mS) (s lo k : Nat) (φ : Nat → Nat) : rowsF S s lo k φ (24 * s + k) = S.2.1 0 (24 * s + k) := by
  rw [rowsF, if_neg (by omega)]
theorem rowsF_step (S : mS) (s lo k : Nat) (φ : Nat → Nat) (h : lo ≤ k) {v : Nat} (hv : φ k = v) : va_up (rowsF S s lo k φ) (24 * s + k) v = rowsF S s lo (k + 1) φ := by
  funext j
  subst hv
  unfold va_up rowsF
  by_cases h : j = 24 * s + k
  · rw [if_pos h, if_pos (by omega), h, Nat.add_sub_cancel_left]
  · rw [if_neg h]
    by_cases h2 : 24 * s + lo ≤ j ∧ j < 24 * s + k
    · rw [if_pos h2, if_pos (by omega)]
    · rw [if_neg h2, if_neg (by omega)]
theorem mg_rowsF (S S' : mS) {s lo hi : Nat} (φ : Nat → Nat) (h : hi ≤ 24) (hS : S'.2.1 0 = rowsF S s lo hi φ) : mg S' s = fun y => if lo ≤ y ∧ y < hi then φ y else mg S s y := by
  funext y
  unfold mg
  rw [hS, rowsF]
  by_cases h1 : y < 24
  · rw [if_pos h1, if_pos h1]
    by_cases h2 : lo ≤ y ∧ y < hi
    · rw [if_pos h2, if_pos (by omega), Nat.add_sub_cancel_left]
    · rw [if_neg h2, if_neg (by omega)]
  · rw [if_neg h1, if_neg h1, if_neg (by omega)]
theorem mg_rowsF_ne (S S' : mS) {s t lo hi : Nat} (φ : Nat → Nat) (h : hi ≤ 24) (hS : S'.2.1 0 = rowsF S s lo hi φ) (hn : t ≠ s) : mg S' t = mg S t := by
  funext y
  unfold mg
  rw [hS, rowsF]
  by_cases h1 : y < 24
  · rw [if_pos h1, if_pos h1, if_neg (by omega)]
  · rw [if_neg h1, if_neg h1]
theorem mok_rowsF {S S' : mS} {s lo hi : Nat} {φ : Nat → Nat} (hb : mok S) (hS : S'.2.1 0 = rowsF S s lo hi φ) (h : ∀ y, lo ≤ y → y < hi → φ y < 16777216) : mok S' := by
  intro j hj
  rw [hS, rowsF]
  split
  · exact h _ (by omega) (by omega)
  · exact hb j hj
/-- the bits from a to b -/
def rngm (a b : Nat) : Nat := (1 <<< b) - (1 <<< a)
theorem rngm_le {a b : Nat} (h : a ≤ b) : 1 <<< a ≤ 1 <<< b := by
  rw [Nat.one_shiftLeft, Nat.one_shiftLeft]
  exact Nat.pow_le_pow_right (by decide) h
theorem rngm_bit (a b i : Nat) : (rngm a b).testBit i = (decide (a ≤ i) && decide (i < b)) := by
  rw [rngm, Nat.one_shiftLeft, Nat.one_shiftLeft]
  by_cases h : a ≤ b
  · have e : 2 ^ b - 2 ^ a = (2 ^ (b - a) - 1) * 2 ^ a := by
      rw [Nat.sub_mul, ← Nat.pow_add, Nat.one_mul, Nat.sub_add_cancel h]
    rw [e, Nat.testBit_mul_two_pow, Nat.testBit_two_pow_sub_one]
    by_cases h1 : a ≤ i
    · simp only [h1, decide_true, Bool.true_and]
      by_cases h2 : i < b
      · rw [decide_eq_true h2, decide_eq_true (by omega)]
      · rw [decide_eq_false h2, decide_eq_false (by omega)]
    · simp [h1]
  · have : 2 ^ b ≤ 2 ^ a := Nat.pow_le_pow_right (by decide) (by omega)
    rw [Nat.sub_eq_zero_of_le this, Nat.zero_testBit]
    by_cases h1 : a ≤ i
    · rw [decide_eq_false (by omega : ¬ i < b), Bool.and_false]
    · rw [decide_eq_false h1, Bool.false_and]
theorem rngm_lt {a b : Nat} (h : b ≤ 24) : rngm a b < 16777216 := by
  have : 1 <<< b ≤ 1 <<< 24 := rngm_le h
  have h2 : (0 : Nat) < 1 <<< a := by rw [Nat.one_shiftLeft]; exact Nat.two_pow_pos a
  have h3 : (1 <<< 24 : Nat) = 16777216 := by decide
  unfold rngm
  omega
theorem or_lt24 {a b : Nat} (ha : a < 16777216) (hb : b < 16777216) : a ||| b < 16777216 := Nat.or_lt_two_pow (n := 24) ha hb
theorem dif_lt24 {a b : Nat} (ha : a < 16777216) : pb_dif a b < 16777216 := Nat.xor_lt_two_pow (n := 24) ha (Nat.and_lt_two_pow (n := 24) b ha |> fun h => by rw [Nat.and_comm] at h; exact h)
theorem gr_nat (g : Nat → Nat) (k : Nat) : gr g (k : Int) = g k := by rw [gr, if_pos (by omega)]; rfl
theorem cnt_le (g : Nat → Nat) : cnt g ≤ 768 := sm_le (c := 32) (fun i => pop_le 32 _) 24
theorem mB_self (S : mS) (k : Nat) : mB S k (S.2.1 k) = S := by
  have : va_up S.2.1 k (S.2.1 k) = S.2.1 := by
    funext j
    unfold va_up
    split
    · next h => rw [h]
    · rfl
  rw [mB, this]
theorem pb_a1 (n : Nat) : -2147483648 ≤ ((n &&& 1 : Nat) : Int) ∧ ((n &&& 1 : Nat) : Int) ≤ 2147483647 := by
  rw [Nat.and_one_is_mod]; omega
