set_option maxRecDepth 100000
/-! PLAIN LAWS: bit counts, cells' measures, paths -/
theorem and_split (a b m n : Nat) (k : Nat) (ha : a < 2 ^ k) (hm : m < 2 ^ k) : (a + 2 ^ k * b) &&& (m + 2 ^ k * n) = (a &&& m) + 2 ^ k * (b &&& n) := by
  apply Nat.eq_of_testBit_eq
  intro i
  have hx : a &&& m < 2 ^ k := Nat.and_lt_two_pow _ hm
  rw [Nat.testBit_and, Nat.add_comm a, Nat.add_comm m, Nat.add_comm (a &&& m), Nat.testBit_two_pow_mul_add _ ha, Nat.testBit_two_pow_mul_add _ hm, Nat.testBit_two_pow_mul_add _ hx]
  split
  · rw [Nat.testBit_and]
  · rw [Nat.testBit_and]
theorem bc1_b : ∀ a : Fin 256, ∀ c : Fin 2, ((a.val + 256 * c.val) >>> 1) &&& 85 = (a.val >>> 1) &&& 85 := by decide +kernel
theorem bc2_b : ∀ a : Fin 256, ∀ c : Fin 4, ((a.val + 256 * c.val) >>> 2) &&& 51 = (a.val >>> 2) &&& 51 := by decide +kernel
theorem bc3_b : ∀ a : Fin 256, ∀ c : Fin 16, a.val % 16 ≤ 4 ∧ a.val / 16 ≤ 4 → (a.val + ((a.val + 256 * c.val) >>> 4) % 256) &&& 15 = (a.val + a.val >>> 4) &&& 15 := by decide +kernel
/-- the count of a byte, and of what lies above -/
theorem bc_all : ∀ a : Fin 256, bc3 (bc2 (bc1 a.val)) = pop 8 a.val ∧ bc1 a.val < 256 ∧ bc2 (bc1 a.val) < 256 ∧ bc2 (bc1 a.val) % 16 ≤ 4 ∧ bc2 (bc1 a.val) / 16 ≤ 4 ∧ pop 8 a.val ≤ 8 := by decide +kernel
theorem shr_split {a b k : Nat} (ha : a < 256) (hk : k ≤ 8) : (a + 256 * b) >>> k = ((a + 256 * (b % 2 ^ k)) >>> k) % 256 + 256 * (b >>> k) := by
  rw [Nat.shiftRight_eq_div_pow, Nat.shiftRight_eq_div_pow, Nat.shiftRight_eq_div_pow]
  have : k = 0 ∨ k = 1 ∨ k = 2 ∨ k = 3 ∨ k = 4 ∨ k = 5 ∨ k = 6 ∨ k = 7 ∨ k = 8 := by omega
  rcases this with e | e | e | e | e | e | e | e | e <;> subst e <;> simp only [Nat.reducePow] <;> omega
theorem bc1_s {a b : Nat} (ha : a < 256) (hb : b < 16777216) : bc1 (a + 256 * b) = bc1 a + 256 * bc1 b := by
  unfold bc1
  have e : (a + 256 * b) >>> 1 &&& 1431655765 = (a >>> 1 &&& 1431655765) + 256 * (b >>> 1 &&& 1431655765) := by
    rw [shr_split ha (by decide : (1 : Nat) ≤ 8)]
    have h1 : ((a + 256 * (b % 2 ^ 1)) >>> 1) % 256 < 2 ^ 8 := Nat.mod_lt _ (by decide)
    have h2 := and_split (((a + 256 * (b % 2 ^ 1)) >>> 1) % 256) (b >>> 1) 85 5592405 8 h1 (by decide)
    have h3 : (a + 256 * (b % 2)) >>> 1 < 256 := by rw [Nat.shiftRight_eq_div_pow]; omega
    have h4 := bc1_b ⟨a, ha⟩ ⟨b % 2, Nat.mod_lt _ (by decide)⟩
    dsimp only at h4
    have h5 : b >>> 1 < 2 ^ 24 := by rw [Nat.shiftRight_eq_div_pow]; omega
    have h6 : b >>> 1 &&& 5592405 = b >>> 1 &&& 1431655765 := by
      have := and_split (b >>> 1) 0 5592405 85 24 h5 (by decide)
      simp only [Nat.reducePow, Nat.mul_zero, Nat.add_zero, Nat.zero_and, Nat.reduceMul, Nat.reduceAdd] at this
      exact this.symm
    have h7 : a >>> 1 &&& 85 = a >>> 1 &&& 1431655765 := by
      have ha1 : a >>> 1 < 2 ^ 8 := by rw [Nat.shiftRight_eq_div_pow]; omega
      have := and_split (a >>> 1) 0 85 5592405 8 ha1 (by decide)
      simp only [Nat.reducePow, Nat.mul_zero, Nat.add_zero, Nat.zero_and, Nat.reduceMul, Nat.reduceAdd] at this
      exact this.symm
    simp only [Nat.reducePow, Nat.reduceMul, Nat.reduceAdd] at h2
    rw [h2, Nat.mod_eq_of_lt h3, h4, h6, h7]
  rw [e]
  have h1 : a >>> 1 &&& 1431655765 ≤ a := Nat.le_trans Nat.and_le_left (Nat.shiftRight_le _ _)
  have h2 : b >>> 1 &&& 1431655765 ≤ b := Nat.le_trans Nat.and_le_left (Nat.shiftRight_le _ _)
  omega
theorem bc2_s {a b : Nat} (ha : a < 256) (hb : b < 16777216) : bc2 (a + 256 * b) = bc2 a + 256 * bc2 b := by
  unfold bc2
  have m1 : ∀ x y : Nat, x < 256 → y < 16777216 → (x + 256 * y) &&& 858993459 = (x &&& 858993459) + 256 * (y &&& 858993459) := by
    intro x y hx hy
    have h2 := and_split x y 51 3355443 8 hx (by decide)
    have h6 : y &&& 3355443 = y &&& 858993459 := by
      have := and_split y 0 3355443 51 24 hy (by decide)
      simp only [Nat.reducePow, Nat.mul_zero, Nat.add_zero, Nat.zero_and, Nat.reduceMul, Nat.reduceAdd] at this
      exact this.symm
    have h7 : x &&& 51 = x &&& 858993459 := by
      have := and_split x 0 51 3355443 8 hx (by decide)
      simp only [Nat.reducePow, Nat.mul_zero, Nat.add_zero, Nat.zero_and, Nat.reduceMul, Nat.reduceAdd] at this
      exact this.symm
    simp only [Nat.reducePow, Nat.reduceMul, Nat.reduceAdd] at h2
    rw [h2, h6, h7]
  have e : (a + 256 * b) >>> 2 &&& 858993459 = (a >>> 2 &&& 858993459) + 256 * (b >>> 2 &&& 858993459) := by
    rw [shr_split ha (by decide : (2 : Nat) ≤ 8), m1 _ _ (Nat.mod_lt _ (by decide)) (by rw [Nat.shiftRight_eq_div_pow]; omega)]
    have h3 : (a + 256 * (b % 4)) >>> 2 < 256 := by rw [Nat.shiftRight_eq_div_pow]; omega
    have h4 := bc2_b ⟨a, ha⟩ ⟨b % 4, Nat.mod_lt _ (by decide)⟩
    dsimp only at h4
    have h7 : ∀ x, x < 256 → x &&& 51 = x &&& 858993459 := by
      intro x hx
      have := and_split x 0 51 3355443 8 hx (by decide)
      simp only [Nat.reducePow, Nat.mul_zero, Nat.add_zero, Nat.zero_and, Nat.reduceMul, Nat.reduceAdd] at this
      exact this.symm
    rw [show (2 : Nat) ^ 2 = 4 from rfl, Nat.mod_eq_of_lt h3, ← h7 _ h3, h4, h7 (a >>> 2) (by rw [Nat.shiftRight_eq_div_pow]; omega)]
  rw [e, m1 a b ha hb]; omega
theorem bc3_s {a b : Nat} (ha : a < 256) (hb : b < 16777216) (h4 : a % 16 ≤ 4 ∧ a / 16 ≤ 4) (h16 : b % 16 ≤ 4) (h5 : b + b >>> 4 < 16777216) : bc3 (a + 256 * b) = bc3 a + 256 * bc3 b := by
  unfold bc3
  have m1 : ∀ x y : Nat, x < 256 → y < 16777216 → (x + 256 * y) &&& 252645135 = (x &&& 252645135) + 256 * (y &&& 252645135) := by
    intro x y hx hy
    have h2 := and_split x y 15 986895 8 hx (by decide)
    have h6 : y &&& 986895 = y &&& 252645135 := by
      have := and_split y 0 986895 15 24 hy (by decide)
      simp only [Nat.reducePow, Nat.mul_zero, Nat.add_zero, Nat.zero_and, Nat.reduceMul, Nat.reduceAdd] at this
      exact this.symm
    have h7 : x &&& 15 = x &&& 252645135 := by
      have := and_split x 0 15 986895 8 hx (by decide)
      simp only [Nat.reducePow, Nat.mul_zero, Nat.add_zero, Nat.zero_and, Nat.reduceMul, Nat.reduceAdd] at this
      exact this.symm
    simp only [Nat.reducePow, Nat.reduceMul, Nat.reduceAdd] at h2
    rw [h2, h6, h7]
  have h7 : ∀ x, x < 256 → x &&& 15 = x &&& 252645135 := by
    intro x hx
    have := and_split x 0 15 986895 8 hx (by decide)
    simp only [Nat.reducePow, Nat.mul_zero, Nat.add_zero, Nat.zero_and, Nat.reduceMul, Nat.reduceAdd] at this
    exact this.symm
  have e : a + 256 * b + (a + 256 * b) >>> 4 = (a + ((a + 256 * (b % 16)) >>> 4) % 256) + 256 * (b + b >>> 4) := by
    rw [shr_split ha (by decide : (4 : Nat) ≤ 8), show (2 : Nat) ^ 4 = 16 from rfl]; omega
  rw [e]
  have h3 : (a + 256 * (b % 16)) >>> 4 < 256 := by rw [Nat.shiftRight_eq_div_pow]; omega
  -- the low byte may run over: split it once more
  obtain ⟨s, hs⟩ : ∃ s, s = a + ((a + 256 * (b % 16)) >>> 4) % 256 := ⟨_, rfl⟩
  rw [← hs]
  have hs2 : s < 256 := by
    rw [hs, Nat.mod_eq_of_lt h3, Nat.shiftRight_eq_div_pow]
    omega
  have hb4 := bc3_b ⟨a, ha⟩ ⟨b % 16, Nat.mod_lt _ (by decide)⟩ h4
  dsimp only at hb4
  rw [← hs] at hb4
  have ha4 : a + a >>> 4 < 256 := by rw [Nat.shiftRight_eq_div_pow]; omega
  rw [m1 s _ hs2 h5, ← h7 s hs2, hb4, h7 _ ha4]
theorem pop_app (j k a b : Nat) (ha : a < 2 ^ j) : pop (j + k) (a + 2 ^ j * b) = pop j a + pop k b := by
  induction j generalizing a with
  | zero => rw [show a = 0 by simp at ha; exact ha]; simp [pop]
  | succ j ih =>
    rw [show j + 1 + k = (j + k) + 1 by omega, pop_succ, pop_succ]
    have e1 : (a + 2 ^ (j + 1) * b) % 2 = a % 2 := by rw [Nat.pow_succ, Nat.mul_comm (2 ^ j) 2, Nat.mul_assoc]; omega
    have e2 : (a + 2 ^ (j + 1) * b) / 2 = a / 2 + 2 ^ j * b := by rw [Nat.pow_succ, Nat.mul_comm (2 ^ j) 2, Nat.mul_assoc]; omega
    rw [e1, e2, ih (a / 2) (by rw [Nat.pow_succ] at ha; omega)]; omega
theorem bcN_pop {n : Nat} (hn : n < 33554432) : bcN n = pop 32 n := by
  obtain ⟨a0, h0⟩ : ∃ a, a = n % 256 := ⟨_, rfl⟩
  obtain ⟨a1, h1⟩ : ∃ a, a = n / 256 % 256 := ⟨_, rfl⟩
  obtain ⟨a2, h2⟩ : ∃ a, a = n / 65536 % 256 := ⟨_, rfl⟩
  obtain ⟨a3, h3⟩ : ∃ a, a = n / 16777216 := ⟨_, rfl⟩
  have e2 : n = a0 + 256 * (a1 + 256 * (a2 + 256 * a3)) := by omega
  have k0 := bc_all ⟨a0, by omega⟩
  have k1 := bc_all ⟨a1, by omega⟩
  have k2 := bc_all ⟨a2, by omega⟩
  have k3 := bc_all ⟨a3, by omega⟩
  dsimp only at k0 k1 k2 k3
  have q3 : bc1 a3 < 256 := k3.2.1
  -- the second step
  have s2 : bc2 (bc1 (a2 + 256 * a3)) = bc2 (bc1 a2) + 256 * bc2 (bc1 a3) := by rw [bc1_s (by omega) (by omega), bc2_s k2.2.1 (by omega)]
  have s1 : bc2 (bc1 (a1 + 256 * (a2 + 256 * a3))) = bc2 (bc1 a1) + 256 * bc2 (bc1 (a2 + 256 * a3)) := by
    rw [bc1_s (by omega) (by omega), bc2_s k1.2.1 (by have := bc1_le (a2 + 256 * a3); omega)]
  have s0 : bc2 (bc1 n) = bc2 (bc1 a0) + 256 * bc2 (bc1 (a1 + 256 * (a2 + 256 * a3))) := by
    rw [e2, bc1_s (by omega) (by omega), bc2_s k0.2.1 (by have := bc1_le (a1 + 256 * (a2 + 256 * a3)); omega)]
  have t3 : bc2 (bc1 a3) ≤ 68 := by have := k3.2.2.2; omega
  have t2 : bc2 (bc1 a2) ≤ 68 := by have := k2.2.2.2; omega
  have t1 : bc2 (bc1 a1) ≤ 68 := by have := k1.2.2.2; omega
  have t3' : bc2 (bc1 a3) ≤ 2 := by
    have : a3 = 0 ∨ a3 = 1 := by omega
    rcases this with e | e <;> subst e <;> decide
  have r2 : bc3 (bc2 (bc1 (a2 + 256 * a3))) = pop 8 a2 + 256 * pop 8 a3 := by
    rw [s2, bc3_s k2.2.2.1 (by omega) ⟨k2.2.2.2.1, k2.2.2.2.2.1⟩ k3.2.2.2.1 (by rw [Nat.shiftRight_eq_div_pow]; omega), k2.1, k3.1]
  have r1 : bc3 (bc2 (bc1 (a1 + 256 * (a2 + 256 * a3)))) = pop 8 a1 + 256 * (pop 8 a2 + 256 * pop 8 a3) := by
    rw [s1, bc3_s k1.2.2.1 (by rw [s2]; omega) ⟨k1.2.2.2.1, k1.2.2.2.2.1⟩ (by rw [s2]; have := k2.2.2.2.1; omega) (by rw [s2, Nat.shiftRight_eq_div_pow]; omega), k1.1, r2]
  have r0 : bc3 (bc2 (bc1 n)) = pop 8 a0 + 256 * (pop 8 a1 + 256 * (pop 8 a2 + 256 * pop 8 a3)) := by
    rw [s0, bc3_s k0.2.2.1 (by rw [s1, s2]; omega) ⟨k0.2.2.2.1, k0.2.2.2.2.1⟩ (by rw [s1]; have := k1.2.2.2.1; omega) (by rw [s1, s2, Nat.shiftRight_eq_div_pow]; omega), k0.1, r1]
  have hp : pop 32 n = pop 8 a0 + (pop 8 a1 + (pop 8 a2 + pop 8 a3)) := by
    have p1 := pop_app 8 24 a0 (a1 + 256 * (a2 + 256 * a3)) (by omega)
    have p2 := pop_app 8 16 a1 (a2 + 256 * a3) (by omega)
    have p3 := pop_app 8 8 a2 a3 (by omega)
    simp only [Nat.reducePow, Nat.reduceAdd] at p1 p2 p3
    rw [e2, p1, p2, p3]
  have b0 := k0.2.2.2.2.2
  have b1 := k1.2.2.2.2.2
  have b2 := k2.2.2.2.2.2
  have b3 := k3.2.2.2.2.2
  unfold bcN bc5 bc4
  rw [r0, hp]
  generalize pop 8 a0 = p0 at b0 ⊢
  generalize pop 8 a1 = p1 at b1 ⊢
  generalize pop 8 a2 = p2 at b2 ⊢
  generalize pop 8 a3 = p3 at b3 ⊢
  rw [show (63 : Nat) = 2 ^ 6 - 1 from rfl, Nat.and_two_pow_sub_one_eq_mod, Nat.shiftRight_eq_div_pow, Nat.shiftRight_eq_div_pow]
  simp only [Nat.reducePow]
  have d1 : (p0 + 256 * (p1 + 256 * (p2 + 256 * p3))) / 256 = p1 + 256 * (p2 + 256 * p3) := by omega
  rw [d1]
  have d2 : (p0 + 256 * (p1 + 256 * (p2 + 256 * p3)) + (p1 + 256 * (p2 + 256 * p3))) / 65536 = p2 + p3 + 256 * p3 := by omega
  rw [d2]
  have d3 : p0 + 256 * (p1 + 256 * (p2 + 256 * p3)) + (p1 + 256 * (p2 + 256 * p3)) + (p2 + p3 + 256 * p3) = (p0 + (p1 + (p2 + p3))) + 64 * (4 * (p1 + 256 * (p2 + 256 * p3)) + 4 * (p2 + 256 * p3) + 4 * p3) := by omega
  rw [d3, Nat.add_mul_mod_self_left]
  exact Nat.mod_eq_of_lt (by omega)
/-! measures by cells -/
theorem arB_law {g : Nat → Nat} (hg : gok g) : arB g 24 = cnt g := by
  unfold arB cnt
  exact sm_ext (fun i _ => bcN_pop (by have := hg.1 i; omega))
theorem grI_gr {g : Nat → Nat} (hg : gok g) (y : Int) : grI g y = gr g y := by
  unfold grI gr
  by_cases c : 0 ≤ y
  · rw [if_pos c]
    by_cases c2 : y ≤ 23
    · rw [if_pos ⟨c, c2⟩]
    · rw [if_neg (fun h => c2 h.2)]; exact (hg.2 _ (by omega)).symm
  · rw [if_neg c, if_neg (fun h => c h.1)]
theorem peB_law {g : Nat → Nat} (hg : gok g) : peB g 25 = permV g := by
  unfold peB permV
  refine sm_ext (fun y _ => ?_)
  have h1 := gr_lt hg ((y : Nat) : Int)
  have h2 := gr_lt hg (((y : Nat) : Int) - 1)
  rw [grI_gr hg, grI_gr hg, bcN_pop (xlt25 (by omega) (by omega)), bcN_pop (xlt25 (by omega) (shl25 h1)), gr_nat]
theorem moR_z (g : Nat → Nat) (hg : gok g) (y k : Nat) : moR g y k = ((sm (momR g y) k : Nat) : Int) := by
  induction k with
  | zero => rfl
  | succ k ih =>
    rw [moR, ih, sm, Int.natCast_add, gcI_gc hg]
    unfold momR
    split <;> rfl
theorem moG_law {g : Nat → Nat} (hg : gok g) : moG g 24 = ((momV g : Nat) : Int) := by
  have key : ∀ k, moG g k = ((sm (fun y => sm (momR g y) 24) k : Nat) : Int) := by
    intro k
    induction k with
    | zero => rfl
    | succ k ih =>
      show moG g k + moR g k 24 = ((sm (fun y => sm (momR g y) 24) k + sm (momR g k) 24 : Nat) : Int)
      rw [ih, moR_z g hg, Int.natCast_add]
  exact key 24
/-! a path that is filled -/
/-- consecutive points lie on a level or an upright line -/
def stP (X Y : Nat → Int) (n : Nat) : Prop := ∀ j, j < n → (X j = X (if j + 1 = n then 0 else j + 1) ↔ ¬ Y j = Y (if j + 1 = n then 0 else j + 1))
theorem wd_ws {X Y : Nat → Int} {n : Nat} (h : stP X Y n) (x y : Int) : ∀ k, k ≤ n → wdA X Y n x y k = wsum X Y n x y k := by
  intro k
  induction k with
  | zero => intro _; rfl
  | succ k ih =>
    intro hk
    rw [wdA, wsum, ih (by omega)]
    congr 1
    have e : (k + 1) % n = if k + 1 = n then 0 else k + 1 := by
      split
      · next h9 => rw [h9, Nat.mod_self]
      · exact Nat.mod_eq_of_lt (by omega)
    have hs := h k (by omega)
    unfold wc rsA
    rw [e]
    generalize (if k + 1 = n then 0 else k + 1) = o at hs
    by_cases c : X k = X o
    · have hy := hs.mp c
      repeat' split
      all_goals omega
    · have hy : Y k = Y o := Classical.byContradiction fun z => c (hs.mpr z)
      repeat' split
      all_goals omega
theorem fil_set {X Y : Nat → Int} {n : Nat} (h : stP X Y n) (odd : Bool) : rs (filF X Y n odd 24) (fun x y => decide (0 ≤ x ∧ x < 24 ∧ 0 ≤ y ∧ y < 24) && wfill X Y n odd y.toNat x.toNat) := by
  have hrow : ∀ y : Int, cnE (rwE X Y n y odd 24) ∧ ∀ x, mE (rwE X Y n y odd 24) x = true ↔ (0 ≤ x ∧ x < ((24 : Nat) : Int)) ∧ fiA odd (wdA X Y n x y n) = true := by
    intro y
    obtain ⟨h1, h2, h3⟩ := cells_row (fun x => fiA odd (wdA X Y n x y n)) (rwE X Y n y odd) rfl (fun k => rfl) 24
    exact ⟨h1, h3⟩
  obtain ⟨r1, r2, r3⟩ := rows_set 0 (fun y => rwE X Y n y odd 24) (fun y => (hrow y).1) (filF X Y n odd) rfl (fun k => by rw [Int.zero_add]; rfl) 24
  refine ⟨r1, fun x y => b_iff ?_⟩
  show _ ↔ (decide (0 ≤ x ∧ x < 24 ∧ 0 ≤ y ∧ y < 24) && wfill X Y n odd y.toNat x.toNat) = true
  rw [r3 y, Bool.and_eq_true, decide_eq_true_eq]
  by_cases c : 0 ≤ y ∧ y < 0 + ((24 : Nat) : Int)
  · rw [if_pos c, (hrow y).2 x]
    have e : 0 ≤ x → wfill X Y n odd y.toNat x.toNat = fiA odd (wdA X Y n x y n) := by
      intro hx
      unfold wfill fiA
      rw [show (((y.toNat : Nat)) : Int) = y by omega, show (((x.toNat : Nat)) : Int) = x by omega, wd_ws h x y n (Nat.le_refl _)]
    constructor
    · rintro ⟨a, b⟩; exact ⟨by omega, by rw [e a.1]; exact b⟩
    · rintro ⟨a, b⟩; exact ⟨by omega, by rw [← e a.1]; exact b⟩
  · rw [if_neg c, mE_nil]
    exact ⟨fun z => (by cases z), fun z => absurd z.1 (by omega)⟩
theorem toF_set {g : Nat → Nat} (hg : gok g) : rs (toF g 24) (gc g) := by
  have hrow : ∀ y : Int, 0 ≤ y → cnE (toE g y.toNat 24) ∧ ∀ x, mE (toE g y.toNat 24) x = true ↔ (0 ≤ x ∧ x < ((24 : Nat) : Int)) ∧ gcI g x y = true := by
    intro y hy
    obtain ⟨h1, h2, h3⟩ := cells_row (fun x => gcI g x y) (toE g y.toNat) rfl (fun k => by rw [toE, show (((y.toNat : Nat)) : Int) = y by omega]) 24
    exact ⟨h1, h3⟩
  obtain ⟨r1, r2, r3⟩ := rows_set 0 (fun y => if 0 ≤ y then toE g y.toNat 24 else []) (fun y => by
    try dsimp only
    split
    · next h => exact (hrow y h).1
    · exact cn_nil) (toF g) rfl (fun k => by rw [Int.zero_add, if_pos (by omega)]; rfl) 24
  refine ⟨r1, fun x y => b_iff ?_⟩
  rw [r3 y]
  by_cases c : 0 ≤ y ∧ y < 0 + ((24 : Nat) : Int)
  · rw [if_pos c, if_pos c.1, (hrow y c.1).2 x, gcI_gc hg]
    exact ⟨fun z => z.2, fun z => ⟨by have := gc_in hg z; omega, z⟩⟩
  · rw [if_neg c, mE_nil]
    exact ⟨fun z => (by cases z), fun z => by have := gc_in hg z; omega⟩
