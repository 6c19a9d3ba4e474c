set_option maxRecDepth 100000
/-! the reference's new grids as sets of cells -/
theorem gc_pt {h : Nat → Nat} (hh : gok h) {S : Int → Int → Bool} (hS : ∀ x y, S x y = true → (0 ≤ x ∧ x ≤ 23) ∧ 0 ≤ y ∧ y ≤ 23) (e : ∀ i j : Nat, i < 24 → j < 24 → (h j).testBit i = S ((i : Nat) : Int) ((j : Nat) : Int)) (x y : Int) : gc h x y = S x y := by
  by_cases c : (0 ≤ x ∧ x ≤ 23) ∧ 0 ≤ y ∧ y ≤ 23
  · obtain ⟨i, hi⟩ := Int.eq_ofNat_of_zero_le c.1.1
    obtain ⟨j, hj⟩ := Int.eq_ofNat_of_zero_le c.2.1
    subst hi; subst hj
    rw [gc_nat]
    exact e i j (by omega) (by omega)
  · rw [gc_off hh c]
    cases h9 : S x y
    · rfl
    · exact absurd (hS x y h9) c
theorem opk_in {k : Nat} {a b : Bool} (h : opk k a b = true) : a = true ∨ b = true := by
  cases a <;> cases b
  · rw [opk_ff] at h; cases h
  · exact Or.inr rfl
  · exact Or.inl rfl
  · exact Or.inl rfl
theorem gop_bit {k : Nat} (hk : k < 4) (a b i : Nat) : (gop (k + 1) a b).testBit i = opk k (a.testBit i) (b.testBit i) := by
  match k, hk with
  | 0, _ => exact Nat.testBit_or a b i
  | 1, _ => exact Nat.testBit_and a b i
  | 2, _ => exact pb_dif_bit a b i
  | 3, _ => exact Nat.testBit_xor a b i
theorem op_gc {g f h : Nat → Nat} (hg : gok g) (hf : gok f) (hh : gok h) {k : Nat} (hk : k < 4) (e : ∀ j, j < 24 → h j = gop (k + 1) (g j) (f j)) (x y : Int) : gc h x y = opk k (gc g x y) (gc f x y) := by
  refine gc_pt hh (S := fun x y => opk k (gc g x y) (gc f x y)) (fun x y h9 => ?_) (fun i j hi hj => ?_) x y
  · rcases opk_in h9 with h9 | h9
    · exact gc_in hg h9
    · exact gc_in hf h9
  · try dsimp only
    rw [e j hj, gop_bit hk, gc_nat, gc_nat]
theorem fil_gc {g h : Nat → Nat} (hg : gok g) (hh : gok h) {a p c d k : Nat} (hk : k = 0 ∨ k = 2) (hc : c ≤ 24) (hd : d ≤ 24) (e : ∀ j, j < 24 → h j = if p ≤ j ∧ j < d then gop (k + 1) (g j) (rngm a c) else g j) (x y : Int) : gc h x y = opk k (gc g x y) (gc (bxg a p c d) x y) := by
  refine op_gc hg (bxg_ok hc hd) hh (by omega) (fun j hj => ?_) x y
  rw [e j hj]
  unfold bxg
  split
  · rfl
  · refine Nat.eq_of_testBit_eq fun i => ?_
    rw [gop_bit (by omega), Nat.zero_testBit]
    rcases hk with hk | hk <;> subst hk
    · show _ = ((g j).testBit i || false); rw [Bool.or_false]
    · show _ = ((g j).testBit i && !false); rw [Bool.not_false, Bool.and_true]
