set_option maxRecDepth 100000
/-! PLAIN LAWS: counts of a grid and of its region -/
theorem zN_nat (f : Nat → Nat) (k : Nat) : ((sm f k : Nat) : Int) = zN (fun y => ((f y.toNat : Nat) : Int)) k := by
  induction k with
  | zero => rfl
  | succ k ih => rw [sm, zN, Int.natCast_add, ih, Int.toNat_natCast]
theorem pop_z (n k : Nat) : ((pop k n : Nat) : Int) = zN (fun x => if n.testBit x.toNat = true then 1 else 0) k := by
  induction k with
  | zero => rfl
  | succ k ih =>
    rw [pop, zN, Int.natCast_add, ih, Int.toNat_natCast]
    split <;> simp <;> omega
theorem zN_cut {f : Int → Int} {a b : Nat} (hab : a ≤ b) (h : ∀ i : Nat, a ≤ i → i < b → f i = 0) : zN f b = zN f a := by
  have := zN_iv (g := fun _ => 0) hab h
  rw [zN_0, zN_0] at this; omega
/-- bits below N, as a sum -/
theorem pop_N {v N : Nat} (hN : N ≤ 32) (hv : v < 2 ^ N) (p : Int → Bool) (hp : ∀ x : Nat, x < N → v.testBit x = p x) : ((pop 32 v : Nat) : Int) = zS (fun x => if p x = true then 1 else 0) ((N : Nat) : Int) := by
  rw [pop_z, zN_cut hN (fun i h1 h2 => if_neg (fun z => by have := bit_lt hv z; rw [Int.toNat_natCast] at this; omega)), zS, Int.toNat_natCast]
  exact zN_ext (fun i hi => by (try dsimp only); rw [Int.toNat_natCast, hp i hi])
theorem gc_box {g : Nat → Nat} (hg : gok g) : inBox (gc g) 0 24 0 24 := fun x y h => by have := gc_in hg h; omega
theorem cN_cnt {g : Nat → Nat} (hg : gok g) : cN (gc g) = ((cnt g : Nat) : Int) := by
  unfold cnt cN
  rw [zN_nat]
  show zN _ 24 = _
  refine zN_ext (fun i hi => ?_)
  try dsimp only
  rw [Int.toNat_natCast, pop_N (N := 24) (by decide) (hg.1 i) (fun x => gc g x ((i : Nat) : Int)) (fun x hx => (gc_nat g x i).symm)]
  rfl
/-- runs of a row -/
theorem mE_off {E : List Int} (h : cnE E) {i : Nat} (hi : 2 * i + 1 < E.length) : mE E (eE E (2 * i) - 1) = false ∧ mE E (eE E (2 * i + 1)) = false := by
  constructor
  · rw [mE_par h (i := 2 * i) (by omega) (fun a ha => by have := cn_lt h ha (by omega); omega) (fun a ha hb => by have := cn_le h ha hb; omega)]
    exact decide_eq_false (by omega)
  · rw [mE_par h (i := 2 * i + 2) (by omega) (fun a ha => cn_le h (by omega) hi) (fun a ha hb => cn_lt h (by omega) hb)]
    exact decide_eq_false (by omega)
theorem mE_mid {E : List Int} (h : cnE E) {i : Nat} (hi : 2 * i + 1 < E.length) {x : Int} (h1 : eE E (2 * i) ≤ x) (h2 : x < eE E (2 * i + 1)) : mE E x = true := mE_iff.mpr ⟨i, hi, h1, h2⟩
def runs (E : List Int) (N : Int) : Int := zS (fun x => if (mE E x && !mE E (x - 1)) = true then 1 else 0) N
theorem zK_c (c : Int) (k : Nat) : zK (fun _ => c) k = ((k : Nat) : Int) * c := by
  induction k with
  | zero => simp [zK]
  | succ k ih => rw [zK, ih, Int.natCast_add, Int.add_mul]; simp
theorem runs_eq {E : List Int} (h : cnE E) (hb : ∀ x, mE E x = true → 0 ≤ x ∧ x < 24) {N : Int} (hN : 24 ≤ N) : runs E N = ((E.length / 2 : Nat) : Int) := by
  unfold runs
  rw [sp_sum h hb _ N hN (fun x _ _ hm => by rw [hm]; rfl)]
  rw [zK_ext (d := fun _ => 1) (fun i hi => ?_), zK_c, Int.mul_one]
  have h0 := cn_rg h hb (i := 2 * i) (by omega)
  have h1 := h.2 (2 * i) (by omega)
  refine zS_one h0.1 h1 ?_ (fun y y1 y2 => ?_)
  · rw [mE_left h (by omega), (mE_off h (by omega)).1]; rfl
  · rw [mE_mid h (by omega) (Int.le_of_lt y1) y2, mE_mid h (i := i) (x := y - 1) (by omega) (by omega) (by omega)]; rfl
theorem zS_shift (f : Int → Int) {N : Int} (hN : 0 ≤ N) : zS f (N + 1) = f 0 + zS (fun x => f (x + 1)) N := by
  have key : ∀ k : Nat, zN f (k + 1) = f 0 + zN (fun x => f (x + 1)) k := by
    intro k
    induction k with
    | zero => show (0 : Int) + f ((0 : Nat) : Int) = _; rw [Int.zero_add]; exact (Int.add_zero _).symm
    | succ k ih => rw [zN, ih, zN, Int.natCast_add]; show _ + zN _ k + f (((k : Nat) : Int) + 1) = _; omega
  unfold zS
  rw [show (N + 1).toNat = N.toNat + 1 by omega, key]
theorem edges_eq {E : List Int} (h : cnE E) (hb : ∀ x, mE E x = true → 0 ≤ x ∧ x < 24) : zS (fun x => if (mE E x != mE E (x - 1)) = true then 1 else 0) 25 = ((E.length : Nat) : Int) := by
  have hev := h.1
  have e1 : (fun x => if (mE E x != mE E (x - 1)) = true then (1 : Int) else 0) = fun x => (if (mE E x && !mE E (x - 1)) = true then 1 else 0) + (if (!mE E x && mE E (x - 1)) = true then 1 else 0) := by
    funext x
    cases mE E x <;> cases mE E (x - 1) <;> rfl
  rw [e1, zS_add]
  have e2 := runs_eq h hb (N := 25) (by omega)
  unfold runs at e2
  rw [e2]
  have e3 : zS (fun x => if (!mE E x && mE E (x - 1)) = true then (1 : Int) else 0) 25 = ((E.length / 2 : Nat) : Int) := by
    rw [show (25 : Int) = 24 + 1 by rfl, zS_shift _ (by omega)]
    have e0 : mE E (0 - 1) = false := by
      cases hm : mE E (0 - 1)
      · rfl
      · have := hb _ hm; omega
    rw [e0, Bool.and_false, if_neg Bool.false_ne_true, Int.zero_add]
    rw [sp_sum h hb _ 24 (Int.le_refl _) (fun x _ _ hm => by rw [Int.add_sub_cancel, hm, Bool.and_false]; rfl)]
    rw [zK_ext (d := fun _ => 1) (fun i hi => ?_), zK_c, Int.mul_one]
    have h0 := cn_rg h hb (i := 2 * i) (by omega)
    have h1 := h.2 (2 * i) (by omega)
    refine zS_oneR h0.1 h1 ?_ (fun y y1 y2 => ?_)
    · rw [Int.add_sub_cancel, Int.sub_add_cancel, (mE_off h (by omega)).2, mE_right h (by omega)]; rfl
    · rw [Int.add_sub_cancel, mE_mid h (i := i) (x := y + 1) (by omega) (by omega) (by omega)]; rfl
  rw [e3]; omega
/-! rows of a grid's region -/
theorem rg_bit {L : List Bnd} {g : Nat → Nat} (hr : rs L (gc g)) (x y : Nat) : (g y).testBit x = mE (rowL L ((y : Nat) : Int)) ((x : Nat) : Int) := by rw [hr.2, gc_nat]
theorem rg_bitS {L : List Bnd} {g : Nat → Nat} (hg : gok g) (hr : rs L (gc g)) (x y : Nat) : (g y <<< 1).testBit x = mE (rowL L ((y : Nat) : Int)) (((x : Nat) : Int) - 1) := by
  rw [hr.2, Nat.testBit_shiftLeft]
  by_cases h : 1 ≤ x
  · rw [decide_eq_true h, Bool.true_and, show ((x : Nat) : Int) - 1 = ((x - 1 : Nat) : Int) by omega, gc_nat]
  · rw [decide_eq_false h, Bool.false_and, gc_out hg (by omega)]
theorem rg_prev {L : List Bnd} {g : Nat → Nat} (hg : gok g) (hr : rs L (gc g)) (x y : Nat) : (gr g (((y : Nat) : Int) - 1)).testBit x = mE (rowL L (((y : Nat) : Int) - 1)) ((x : Nat) : Int) := by
  rw [hr.2, gc, decide_eq_true (by omega : (0 : Int) ≤ ((x : Nat) : Int)), Bool.true_and]; rfl
theorem rg_eq {L : List Bnd} {g : Nat → Nat} (hg : gok g) (hr : rs L (gc g)) (y : Nat) : g y = gr g (((y : Nat) : Int) - 1) ↔ rowL L ((y : Nat) : Int) = rowL L (((y : Nat) : Int) - 1) := by
  constructor
  · intro h
    refine cn_ext (row_cn hr.1 _) (row_cn hr.1 _) (fun x => ?_)
    by_cases hx : 0 ≤ x
    · rw [show x = ((x.toNat : Nat) : Int) by omega, ← rg_bit hr, ← rg_prev hg hr, h]
    · rw [hr.2, hr.2, gc_out hg (by omega), gc_out hg (by omega)]
  · intro h
    apply Nat.eq_of_testBit_eq
    intro x
    rw [rg_bit hr, rg_prev hg hr, h]
theorem rg_zero {L : List Bnd} {g : Nat → Nat} (hg : gok g) (hr : rs L (gc g)) (y : Nat) : g y = 0 ↔ rowL L ((y : Nat) : Int) = [] := by
  constructor
  · intro h
    refine cn_ext (row_cn hr.1 _) cn_nil (fun x => ?_)
    by_cases hx : 0 ≤ x
    · rw [show x = ((x.toNat : Nat) : Int) by omega, ← rg_bit hr, h, Nat.zero_testBit]; rfl
    · rw [hr.2, gc_out hg (by omega)]; rfl
  · intro h
    apply Nat.eq_of_testBit_eq
    intro x
    rw [rg_bit hr, h, Nat.zero_testBit]; rfl
/-- the row below a band is another one -/
theorem row_below {L : List Bnd} (h : cbL L) {j : Nat} (hj : j < L.length) : rowL L ((bd L j).1 - 1) ≠ bE L j := by
  intro z
  rcases row_cases h ((bd L j).1 - 1) with ⟨i, i1, i2, i3, i4⟩ | ⟨i1, i2⟩
  · rw [i4] at z
    have hij : i < j := by
      apply Classical.byContradiction
      intro c
      by_cases e : i = j
      · subst e; omega
      · have := cb_up h (show j < i by omega) i1; have := (h.1 j hj).1; omega
    by_cases e : i + 1 = j
    · subst e
      have := h.2 i hj
      exact this.2 (by omega) z
    · have := cb_up h (show i < i + 1 by omega) (by omega)
      have := (h.1 (i + 1) (by omega)).1
      have := cb_up h (show i + 1 < j by omega) hj
      omega
  · rw [i2] at z
    have := (h.1 j hj).2.2
    rw [← z] at this
    exact absurd this (by decide)
theorem bE_ne {L : List Bnd} (h : cbL L) {j : Nat} (hj : j < L.length) : bE L j ≠ [] := fun z => by
  have := (h.1 j hj).2.2
  rw [z] at this
  exact absurd this (by decide)
/-- one for each band -/
theorem bd_one {L : List Bnd} {S : Int → Int → Bool} (h : rs L S) (hb : inBox S 0 24 0 24) (c : List Int → Int) (hc : c [] = 0) : zS (fun y => if rowL L y = rowL L (y - 1) then 0 else c (rowL L y)) 24 = zK (fun j => c (bE L j)) L.length := by
  rw [bd_sum h hb _ 24 (Int.le_refl _) (fun y _ _ hm => by (try dsimp only); rw [hm, hc]; split <;> rfl)]
  refine zK_ext (fun j hj => ?_)
  have h0 := rs_hts h hb hj
  have h1 := (h.1.1 j hj).1
  refine zS_one h0.1 h1 ?_ (fun y y1 y2 => ?_)
  · try dsimp only
    rw [row_at h.1 hj (Int.le_refl _) h1, if_neg (fun z => row_below h.1 hj z.symm)]
  · try dsimp only
    rw [row_at h.1 hj (Int.le_of_lt y1) y2, row_at h.1 hj (y := y - 1) (by omega) (by omega), if_pos rfl]
theorem sm_z (f : Nat → Nat) (φ : Int → Int) (k : Nat) (h : ∀ y : Nat, y < k → ((f y : Nat) : Int) = φ y) : ((sm f k : Nat) : Int) = zS φ ((k : Nat) : Int) := by
  rw [zN_nat, zS, Int.toNat_natCast]
  exact zN_ext (fun i hi => by (try dsimp only); rw [Int.toNat_natCast, h i hi])
theorem rect_law {L : List Bnd} {g : Nat → Nat} (hg : gok g) (hr : rs L (gc g)) : (scL arS L (0, 0) L.length).1 = ((rectV g : Nat) : Int) := by
  have hb := gc_box hg
  rw [ar_scL]
  unfold rectV
  rw [sm_z _ (fun y => if rowL L y = rowL L (y - 1) then 0 else (((rowL L y).length / 2 : Nat) : Int)) 24 (fun y hy => ?_)]
  · rw [show (((24 : Nat) : Int)) = 24 by rfl, bd_one hr hb (fun E => ((E.length / 2 : Nat) : Int)) rfl]
  · by_cases c : g y = gr g (((y : Nat) : Int) - 1)
    · rw [if_pos c, if_pos ((rg_eq hg hr y).mp c)]; rfl
    · rw [if_neg c, if_neg (fun z => c ((rg_eq hg hr y).mpr z))]
      have hv : pb_dif (g y) (g y <<< 1) < 2 ^ 24 := dif_lt24 (hg.1 y)
      rw [pop_N (N := 24) (by decide) hv (fun x => mE (rowL L ((y : Nat) : Int)) x && !mE (rowL L ((y : Nat) : Int)) (x - 1)) (fun x hx => by rw [pb_dif_bit, rg_bit hr, rg_bitS hg hr])]
      exact runs_eq (row_cn hr.1 _) (rs_row hr hb _) (Int.le_refl _)
theorem band_law {L : List Bnd} {g : Nat → Nat} (hg : gok g) (hr : rs L (gc g)) : L.length = bandV g := by
  have hb := gc_box hg
  have h1 : ((bandV g : Nat) : Int) = ((L.length : Nat) : Int) := by
    unfold bandV
    rw [sm_z _ (fun y => if rowL L y = rowL L (y - 1) then 0 else (if rowL L y = [] then 0 else 1)) 24 (fun y hy => ?_)]
    · rw [show (((24 : Nat) : Int)) = 24 by rfl, bd_one hr hb (fun E => if E = [] then 0 else 1) (if_pos rfl), zK_ext (d := fun _ => 1) (fun j hj => if_neg (bE_ne hr.1 hj)), zK_c, Int.mul_one]
    · by_cases c : g y = gr g (((y : Nat) : Int) - 1)
      · rw [if_neg (fun z => z.2 c), if_pos ((rg_eq hg hr y).mp c)]; rfl
      · rw [if_neg (fun z => c ((rg_eq hg hr y).mpr z))]
        by_cases c2 : g y = 0
        · rw [if_neg (fun z => z.1 c2), if_pos ((rg_zero hg hr y).mp c2)]; rfl
        · rw [if_pos ⟨c2, c⟩, if_neg (fun z => c2 ((rg_zero hg hr y).mpr z))]; rfl
  omega
/-! the perimeter -/
/-- how many columns two rows differ in -/
def dfN (E F : List Int) : Int := zS (fun x => if (mE E x != mE F x) = true then 1 else 0) 24
theorem dfN_dif {E F : List Int} (hE : cnE E) (hF : cnE F) (hEb : ∀ x, mE E x = true → 0 ≤ x ∧ x < 24) (hFb : ∀ x, mE F x = true → 0 ≤ x ∧ x < 24) : difE E F = dfN E F := by
  obtain ⟨c1, c2⟩ := cm_set hE hF 3
  have c2' : ∀ x, mE (cmE 3 E F) x = (mE E x != mE F x) := fun x => c2 x
  unfold difE
  rw [← rwS_len c1 (fun x hx => ?_)]
  · unfold rwS dfN
    congr 1
    funext x
    rw [c2']
  · rw [c2'] at hx
    cases he : mE E x
    · cases hf : mE F x
      · rw [he, hf] at hx; cases hx
      · exact hFb x hf
    · exact hEb x he
theorem dfN_self (E : List Int) : dfN E E = 0 := by
  unfold dfN
  have : (fun x => if (mE E x != mE E x) = true then (1 : Int) else 0) = fun _ => 0 := by funext x; rw [bne_self_eq_false]; rfl
  rw [this]; exact zN_0 _
theorem dfN_nil (F : List Int) : dfN [] F = rwS F (fun _ => 1) := by
  unfold dfN rwS
  congr 1
  funext x
  rw [mE_nil]
  cases mE F x <;> rfl
theorem perF_z (L : List Bnd) (k : Nat) : perF L k = zK (fun j => ((2 * ((bd L j).2.1 - (bd L j).1)) * (((bE L j).length / 2 : Nat) : Int)) + difE (bE L j) (rowL L ((bd L j).1 - 1)) + (if (rowL L (bd L j).2.1).length / 2 = 0 then lenE (bE L j) ((bE L j).length / 2) else 0)) k := by
  induction k with
  | zero => rfl
  | succ k ih => rw [perF, zK, ih]; omega
theorem row_empty {L : List Bnd} (h : cbL L) (y : Int) : (rowL L y).length / 2 = 0 ↔ rowL L y = [] := by
  constructor
  · intro z
    have := (row_cn h y).1
    exact List.length_eq_zero_iff.mp (by omega)
  · intro z; rw [z]; rfl
theorem per_law {L : List Bnd} {g : Nat → Nat} (hg : gok g) (hr : rs L (gc g)) : perF L L.length = ((permV g : Nat) : Int) := by
  have hb := gc_box hg
  have hcb := hr.1
  -- the rows' ends
  have e1 : zS (fun y => (((rowL L y).length : Nat) : Int)) 25 = zK (fun j => (2 * ((bd L j).2.1 - (bd L j).1)) * (((bE L j).length / 2 : Nat) : Int)) L.length := by
    rw [bd_sum hr hb _ 25 (by omega) (fun y _ _ hm => by (try dsimp only); rw [hm]; rfl)]
    refine zK_ext (fun j hj => ?_)
    have h0 := rs_hts hr hb hj
    have h1 := (hcb.1 j hj).1
    have hev := (hcb.1 j hj).2.1.1
    rw [zS_iv (g := fun _ => (((bE L j).length : Nat) : Int)) h0.1 (Int.le_of_lt h1) (fun y y1 y2 => by rw [row_at hcb hj y1 y2]), zS_c _ (by omega), zS_c _ (by omega), sub_mul_, show (((bE L j).length : Nat) : Int) = 2 * (((bE L j).length / 2 : Nat) : Int) by omega]
    rw [← Int.mul_assoc, Int.mul_comm _ 2]
  -- where a band begins
  have e2 : zS (fun y => if rowL L y = [] then 0 else dfN (rowL L y) (rowL L (y - 1))) 25 = zK (fun j => difE (bE L j) (rowL L ((bd L j).1 - 1))) L.length := by
    rw [bd_sum hr hb _ 25 (by omega) (fun y _ _ hm => if_pos hm)]
    refine zK_ext (fun j hj => ?_)
    have h0 := rs_hts hr hb hj
    have h1 := (hcb.1 j hj).1
    refine zS_one h0.1 h1 ?_ (fun y y1 y2 => ?_)
    · try dsimp only
      rw [row_at hcb hj (Int.le_refl _) h1, if_neg (bE_ne hcb hj), dfN_dif (hcb.1 j hj).2.1 (row_cn hcb _) (rs_cols hr hb hj) (rs_row hr hb _)]
    · try dsimp only
      rw [row_at hcb hj (Int.le_of_lt y1) y2, row_at hcb hj (y := y - 1) (by omega) (by omega), dfN_self]; split <;> rfl
  -- where nothing lies above a band
  have e3 : zS (fun y => if rowL L y = [] then rwS (rowL L (y - 1)) (fun _ => 1) else 0) 25 = zK (fun j => if (rowL L (bd L j).2.1).length / 2 = 0 then lenE (bE L j) ((bE L j).length / 2) else 0) L.length := by
    rw [show (25 : Int) = 24 + 1 by rfl, zS_shift _ (by omega)]
    have e0 : rowL L (0 - 1) = [] := row_no (fun j hj z => by have := rs_hts hr hb hj; omega)
    rw [e0, rwS_nil, show (if rowL L 0 = [] then (0 : Int) else 0) = 0 by split <;> rfl, Int.zero_add]
    rw [bd_sum hr hb _ 24 (Int.le_refl _) (fun y _ _ hm => by (try dsimp only); rw [Int.add_sub_cancel, hm, rwS_nil]; split <;> rfl)]
    refine zK_ext (fun j hj => ?_)
    have h0 := rs_hts hr hb hj
    have h1 := (hcb.1 j hj).1
    refine zS_oneR h0.1 h1 ?_ (fun y y1 y2 => ?_)
    · try dsimp only
      rw [Int.add_sub_cancel, Int.sub_add_cancel, row_at hcb hj (y := (bd L j).2.1 - 1) (by omega) (by omega), rwS_len (hcb.1 j hj).2.1 (rs_cols hr hb hj)]
      by_cases c : rowL L (bd L j).2.1 = []
      · rw [if_pos c, if_pos ((row_empty hcb _).mpr c)]
      · rw [if_neg c, if_neg (fun z => c ((row_empty hcb _).mp z))]
    · try dsimp only
      rw [row_at hcb hj (y := y + 1) (by omega) (by omega), if_neg (bE_ne hcb hj)]
  rw [perF_z, zK_add, zK_add, ← e1, ← e2, ← e3, ← zS_add, ← zS_add]
  unfold permV
  rw [sm_z _ (fun y => (((rowL L y).length : Nat) : Int) + (if rowL L y = [] then 0 else dfN (rowL L y) (rowL L (y - 1))) + (if rowL L y = [] then rwS (rowL L (y - 1)) (fun _ => 1) else 0)) 25 (fun y hy => ?_)]
  · rfl
  · have hgy := hg.1 y
    have hpr := gr_lt hg (((y : Nat) : Int) - 1)
    have p1 : ((pop 32 (g y ^^^ gr g (((y : Nat) : Int) - 1)) : Nat) : Int) = dfN (rowL L ((y : Nat) : Int)) (rowL L (((y : Nat) : Int) - 1)) :=
      pop_N (N := 24) (by decide) (Nat.xor_lt_two_pow (n := 24) hgy hpr) (fun x => mE (rowL L ((y : Nat) : Int)) x != mE (rowL L (((y : Nat) : Int) - 1)) x) (fun x hx => by rw [Nat.testBit_xor, rg_bit hr, rg_prev hg hr])
    have p2 : ((pop 32 (g y ^^^ g y <<< 1) : Nat) : Int) = (((rowL L ((y : Nat) : Int)).length : Nat) : Int) := by
      rw [pop_N (N := 25) (by decide) (Nat.xor_lt_two_pow (n := 25) (by omega) (by rw [Nat.shiftLeft_eq]; omega)) (fun x => mE (rowL L ((y : Nat) : Int)) x != mE (rowL L ((y : Nat) : Int)) (x - 1)) (fun x hx => by rw [Nat.testBit_xor, rg_bit hr, rg_bitS hg hr])]
      exact edges_eq (row_cn hr.1 _) (rs_row hr hb _)
    rw [Int.natCast_add, p1, p2]
    by_cases c : rowL L ((y : Nat) : Int) = []
    · rw [if_pos c, if_pos c, c, dfN_nil]; show _ + ((0 : Nat) : Int) = ((0 : Nat) : Int) + 0 + _; omega
    · rw [if_neg c, if_neg c]; omega
