set_option maxRecDepth 100000
/-! PLAIN LAWS: cells, boxes, moments -/
theorem ofE_bit {E : List Int} (h : ∀ i, 0 ≤ eE E i) (k x : Nat) : (ofE E k).testBit x = inE E ((x : Nat) : Int) k := by
  induction k with
  | zero => exact Nat.zero_testBit x
  | succ k ih =>
    rw [ofE, Nat.testBit_or, ih, inE, rngm_bit]
    congr 1
    have h1 := h (2 * k)
    have h2 := h (2 * k + 1)
    apply b_iff
    simp only [Bool.and_eq_true, decide_eq_true_eq]
    omega
theorem bE_out {L : List Bnd} {j : Nat} (h : L.length ≤ j) : bd L j = (0, 0, []) := by
  unfold bd; rw [List.getD_eq_getElem?_getD, List.getElem?_eq_none h]; rfl
theorem rs_rg {L : List Bnd} {S : Int → Int → Bool} (h : rs L S) {a b c d : Int} (hb : inBox S a b c d) (h0 : a ≤ 0 ∧ 0 ≤ b ∧ c ≤ 0 ∧ 0 ≤ d) : (∀ j i, a ≤ eE (bE L j) i ∧ eE (bE L j) i ≤ b) ∧ (∀ j, (c ≤ (bd L j).1 ∧ (bd L j).1 ≤ d) ∧ (c ≤ (bd L j).2.1 ∧ (bd L j).2.1 ≤ d)) ∧ (∀ y i, a ≤ eE (rowL L y) i ∧ eE (rowL L y) i ≤ b) := by
  refine ⟨fun j i => ?_, fun j => ?_, fun y i => ?_⟩
  · by_cases hj : j < L.length
    · by_cases hi : i < (bE L j).length
      · exact rs_ends h hb hj hi
      · rw [eE_out (by omega)]; omega
    · unfold bE; rw [bE_out (by omega)]
      show a ≤ eE [] i ∧ _
      rw [eE_out (Nat.zero_le _)]; omega
  · by_cases hj : j < L.length
    · have := rs_hts h hb hj; have := (h.1.1 j hj).1; omega
    · rw [bE_out (by omega)]; (try dsimp only); omega
  · by_cases hi : i < (rowL L y).length
    · exact cn_rg (row_cn h.1 y) (rs_row h hb y) hi
    · rw [eE_out (by omega)]; omega
theorem row_le {L : List Bnd} (h : cbL L) (y : Int) (k : Nat) (hk : 2 * k + 1 < (rowL L y).length) : eE (rowL L y) (2 * k) ≤ eE (rowL L y) (2 * k + 1) := Int.le_of_lt ((row_cn h y).2 _ hk)
theorem ofG_law {L : List Bnd} {g : Nat → Nat} (hg : gok g) (hr : rs L (gc g)) : ofG L 24 = g := by
  have hR := (rs_rg hr (gc_box hg) (by omega)).2.2
  funext y
  unfold ofG
  by_cases hy : y < 24
  · rw [if_pos hy]
    apply Nat.eq_of_testBit_eq
    intro x
    rw [ofE_bit (fun i => (hR _ i).1), rg_bit hr]; rfl
  · rw [if_neg hy]; exact (hg.2 y (by omega)).symm
theorem rs_empty {L : List Bnd} {S : Int → Int → Bool} (h : rs L S) : L.length = 0 ↔ ∀ x y, S x y = false := by
  constructor
  · intro z x y
    rw [← h.2, List.length_eq_zero_iff.mp z, show rowL [] y = [] from rfl, mE_nil]
  · intro z
    apply Classical.byContradiction
    intro c
    have h1 := h.1.1 0 (by omega)
    have h2 := mE_left h1.2.1 (i := 0) (by omega)
    rw [rs_band h (j := 0) (by omega) (Int.le_refl _) h1.1, z] at h2
    cases h2
theorem cnt_zero {g : Nat → Nat} (hg : gok g) : cnt g = 0 ↔ ∀ y, g y = 0 := by
  constructor
  · intro h y
    by_cases hy : y < 24
    · apply Classical.byContradiction
      intro c
      have h1 : 0 < pop 32 (g y) := by
        have := pop_lt (bs.z (g y)) 32 (Nat.lt_of_lt_of_le (hg.1 y) (by decide)) (Ne.symm c)
        rw [pop_zero] at this; exact this
      have h2 := smL (f := fun _ => 0) (g := fun y => pop 32 (g y)) (k := 24) (fun i _ => Nat.zero_le _) hy h1
      rw [sm_zero (fun _ _ => rfl)] at h2
      unfold cnt at h
      omega
    · exact hg.2 y (by omega)
  · intro h
    exact sm_zero (fun i _ => by rw [h i, pop_zero])
theorem gc_zero {g : Nat → Nat} : (∀ y, g y = 0) ↔ ∀ x y, gc g x y = false := by
  constructor
  · intro h x y
    unfold gc gr
    split
    · rw [h, Nat.zero_testBit, Bool.and_false]
    · rw [Nat.zero_testBit, Bool.and_false]
  · intro h y
    apply Nat.eq_of_testBit_eq
    intro x
    rw [Nat.zero_testBit, ← gc_nat, h]
theorem len_cnt {L : List Bnd} {g : Nat → Nat} (hg : gok g) (hr : rs L (gc g)) : L.length = 0 ↔ cnt g = 0 := by
  rw [rs_empty hr, cnt_zero hg, gc_zero]
/-! the box around -/
theorem left_spec (L : List Bnd) (k : Nat) : (∀ j, j < k → leftF L k ≤ eE (bE L j) 0) ∧ (leftF L k = 24 ∨ ∃ j, j < k ∧ leftF L k = eE (bE L j) 0) := by
  induction k with
  | zero => exact ⟨fun j hj => absurd hj (Nat.not_lt_zero _), Or.inl rfl⟩
  | succ k ih =>
    obtain ⟨h1, h2⟩ := ih
    rw [leftF, Nat.mul_zero]
    refine ⟨fun j hj => ?_, ?_⟩
    · by_cases e : j = k
      · subst e; omega
      · have := h1 j (by omega); omega
    · by_cases c : leftF L k ≤ eE (bE L k) 0
      · rw [show min (leftF L k) (eE (bE L k) 0) = leftF L k by omega]
        rcases h2 with z | ⟨j, a, b⟩
        · exact Or.inl z
        · exact Or.inr ⟨j, by omega, b⟩
      · exact Or.inr ⟨k, by omega, by omega⟩
theorem right_spec (L : List Bnd) (k : Nat) : (∀ j, j < k → eE (bE L j) (2 * ((bE L j).length / 2 - 1) + 1) ≤ rightF L k) ∧ (rightF L k = 0 ∨ ∃ j, j < k ∧ rightF L k = eE (bE L j) (2 * ((bE L j).length / 2 - 1) + 1)) := by
  induction k with
  | zero => exact ⟨fun j hj => absurd hj (Nat.not_lt_zero _), Or.inl rfl⟩
  | succ k ih =>
    obtain ⟨h1, h2⟩ := ih
    rw [rightF]
    refine ⟨fun j hj => ?_, ?_⟩
    · by_cases e : j = k
      · subst e; omega
      · have := h1 j (by omega); omega
    · by_cases c : eE (bE L k) (2 * ((bE L k).length / 2 - 1) + 1) ≤ rightF L k
      · rw [show max (rightF L k) (eE (bE L k) (2 * ((bE L k).length / 2 - 1) + 1)) = rightF L k by omega]
        rcases h2 with z | ⟨j, a, b⟩
        · exact Or.inl z
        · exact Or.inr ⟨j, by omega, b⟩
      · exact Or.inr ⟨k, by omega, by omega⟩
theorem shd_iff {L : List Bnd} {g : Nat → Nat} (hg : gok g) (hr : rs L (gc g)) (x : Nat) : (shdw g 24).testBit x = true ↔ ∃ j, j < L.length ∧ mE (bE L j) ((x : Nat) : Int) = true := by
  rw [shdw_bit]
  constructor
  · rintro ⟨y, hy, h⟩
    rw [rg_bit hr] at h
    rcases row_cases hr.1 ((y : Nat) : Int) with ⟨j, i1, i2, i3, i4⟩ | ⟨i1, i2⟩
    · rw [i4] at h; exact ⟨j, i1, h⟩
    · rw [i2, mE_nil] at h; cases h
  · rintro ⟨j, hj, h⟩
    have h0 := rs_hts hr (gc_box hg) hj
    have h1 := (hr.1.1 j hj).1
    refine ⟨(bd L j).1.toNat, by omega, ?_⟩
    rw [rg_bit hr, show (((bd L j).1.toNat : Nat) : Int) = (bd L j).1 by omega, row_at hr.1 hj (Int.le_refl _) h1]
    exact h
theorem box_law {L : List Bnd} {g : Nat → Nat} (hg : gok g) (hr : rs L (gc g)) {xl xr xb xt : Nat} (hB : boxP g xl xr xb xt) : leftF L L.length = ((xl : Nat) : Int) ∧ rightF L L.length = ((xr : Nat) : Int) ∧ (bd L 0).1 = ((xb : Nat) : Int) ∧ (bd L (L.length - 1)).2.1 = ((xt : Nat) : Int) := by
  have hb := gc_box hg
  obtain ⟨⟨a1, a2, a3⟩, ⟨b1, b2, b3, b4⟩, ⟨c1, c2, c3⟩, d1, d2, d3, d4⟩ := hB
  obtain ⟨jl, hjl, hml⟩ := (shd_iff hg hr xl).mp a2
  obtain ⟨jr, hjr, hmr⟩ := (shd_iff hg hr (xr - 1)).mp b3
  have hE : ∀ j, j < L.length → cnE (bE L j) ∧ 2 ≤ (bE L j).length ∧ (bE L j).length % 2 = 0 := fun j hj => ⟨(hr.1.1 j hj).2.1, (hr.1.1 j hj).2.2, (hr.1.1 j hj).2.1.1⟩
  obtain ⟨l1, l2⟩ := left_spec L L.length
  obtain ⟨r1, r2⟩ := right_spec L L.length
  refine ⟨?_, ?_, ?_, ?_⟩
  · -- the left side
    have g1 := (mE_ge (hE jl hjl).1 hml).1
    have g2 := l1 jl hjl
    rcases l2 with z | ⟨j, hj, z⟩
    · omega
    · obtain ⟨e1, e2, e3⟩ := hE j hj
      have hm := mE_left e1 (i := 0) (by omega)
      have h0 := rs_cols hr hb hj _ hm
      apply Classical.byContradiction
      intro c
      have hf := a3 (eE (bE L j) 0).toNat (by rw [Nat.mul_zero] at h0; omega)
      have ht := (shd_iff hg hr (eE (bE L j) 0).toNat).mpr ⟨j, hj, by rw [show (((eE (bE L j) 0).toNat : Nat) : Int) = eE (bE L j) 0 by (rw [Nat.mul_zero] at h0; omega)]; exact hm⟩
      rw [hf] at ht; cases ht
  · obtain ⟨e1, e2, e3⟩ := hE jr hjr
    have g1 := (mE_ge e1 hmr).2.1
    have g2 := r1 jr hjr
    rw [show 2 * ((bE L jr).length / 2 - 1) + 1 = (bE L jr).length - 1 by omega] at g2
    rcases r2 with z | ⟨j, hj, z⟩
    · omega
    · obtain ⟨f1, f2, f3⟩ := hE j hj
      have hm := mE_right f1 (i := (bE L j).length / 2 - 1) (by omega)
      have h0 := rs_cols hr hb hj _ hm
      rw [← z] at hm h0
      apply Classical.byContradiction
      intro c
      have hf := b4 (rightF L L.length - 1).toNat (by omega) (by omega)
      have ht := (shd_iff hg hr (rightF L L.length - 1).toNat).mpr ⟨j, hj, by rw [show (((rightF L L.length - 1).toNat : Nat) : Int) = rightF L L.length - 1 by omega]; exact hm⟩
      rw [hf] at ht; cases ht
  · have h1 := hr.1.1 0 (by omega)
    have h0 := rs_hts hr hb (j := 0) (by omega)
    rcases Int.lt_trichotomy (bd L 0).1 ((xb : Nat) : Int) with z | z | z
    · exfalso
      have hf := c3 (bd L 0).1.toNat (by omega)
      rw [rg_zero hg hr, show (((bd L 0).1.toNat : Nat) : Int) = (bd L 0).1 by omega, row_at hr.1 (j := 0) (by omega) (Int.le_refl _) h1.1] at hf
      exact bE_ne hr.1 (by omega) hf
    · exact z
    · exfalso
      apply c2
      rw [rg_zero hg hr]
      refine row_no (fun j hj y => ?_)
      by_cases e : j = 0
      · subst e; omega
      · have := cb_up hr.1 (show 0 < j by omega) hj; omega
  · have h1 := hr.1.1 (L.length - 1) (by omega)
    have h0 := rs_hts hr hb (j := L.length - 1) (by omega)
    rcases Int.lt_trichotomy (bd L (L.length - 1)).2.1 ((xt : Nat) : Int) with z | z | z
    · exfalso
      apply d3
      rw [rg_zero hg hr]
      refine tb_row hr.1 (t := (bd L (L.length - 1)).2.1) (Or.inr (Int.le_refl _)) (by omega)
    · exact z
    · exfalso
      have hf := d4 ((bd L (L.length - 1)).2.1 - 1).toNat (by omega)
      rw [rg_zero hg hr, show ((((bd L (L.length - 1)).2.1 - 1).toNat : Nat) : Int) = (bd L (L.length - 1)).2.1 - 1 by omega, row_at hr.1 (j := L.length - 1) (by omega) (by omega) (by omega)] at hf
      exact bE_ne hr.1 (by omega) hf
/-! moments -/
theorem sq_z {t : Int} (h0 : 0 ≤ t) (h1 : t ≤ 24) : zS (fun x => x * x) t = sqN t := by
  have h : ∀ i : Fin 25, zS (fun x => x * x) ((i.val : Nat) : Int) = sqN ((i.val : Nat) : Int) := by decide +kernel
  have := h ⟨t.toNat, by omega⟩
  rwa [show (((t.toNat : Nat)) : Int) = t by omega] at this
theorem od_z {t : Int} (h0 : 0 ≤ t) (h1 : t ≤ 24) : zS (fun x => 2 * x + 1) t = t * t := by
  have h : ∀ i : Fin 25, zS (fun x => 2 * x + 1) ((i.val : Nat) : Int) = ((i.val : Nat) : Int) * ((i.val : Nat) : Int) := by decide +kernel
  have := h ⟨t.toNat, by omega⟩
  rwa [show (((t.toNat : Nat)) : Int) = t by omega] at this
theorem mo_scE (lo hi : Int) (E : List Int) (s : Int × Int) (k : Nat) : (scE moS lo hi E s k).2 = s.2 + (zK (fun i => sqN (eE E (2 * i + 1)) - sqN (eE E (2 * i))) k * (hi - lo) + (sqN hi - sqN lo) * zK (fun i => eE E (2 * i + 1) - eE E (2 * i)) k) := by
  induction k with
  | zero => show s.2 = s.2 + (0 * (hi - lo) + (sqN hi - sqN lo) * 0); rw [Int.zero_mul, Int.mul_zero]; omega
  | succ k ih =>
    rw [scE, moS]
    try dsimp only
    rw [ih, zK, zK, Int.add_mul, Int.mul_add]; omega
theorem mo_scL (L : List Bnd) (k : Nat) : (scL moS L (0, 0) k).2 = zK (fun j => zK (fun i => sqN (eE (bE L j) (2 * i + 1)) - sqN (eE (bE L j) (2 * i))) ((bE L j).length / 2) * ((bd L j).2.1 - (bd L j).1) + (sqN (bd L j).2.1 - sqN (bd L j).1) * lenE (bE L j) ((bE L j).length / 2)) k := by
  induction k with
  | zero => rfl
  | succ k ih => rw [scL, mo_scE, ih, zK, lenE_z]
theorem mi_scE (lo hi : Int) (E : List Int) (s : Int × Int × Int × Int) (k : Nat) : (scE miS lo hi E s k).2 = (s.2.1 + zK (fun i => eE E (2 * i + 1) * eE E (2 * i + 1) - eE E (2 * i) * eE E (2 * i)) k * (hi - lo), s.2.2.1 + (hi * hi - lo * lo) * zK (fun i => eE E (2 * i + 1) - eE E (2 * i)) k, s.2.2.2 + zK (fun i => eE E (2 * i + 1) - eE E (2 * i)) k * (hi - lo)) := by
  induction k with
  | zero => show s.2 = (s.2.1 + 0 * (hi - lo), s.2.2.1 + (hi * hi - lo * lo) * 0, s.2.2.2 + 0 * (hi - lo)); rw [Int.zero_mul, Int.mul_zero, Int.add_zero, Int.add_zero, Int.add_zero]
  | succ k ih =>
    rw [scE, miS]
    try dsimp only
    rw [ih, zK, zK, Int.add_mul, Int.mul_add, Int.add_mul]
    refine Prod.ext ?_ (Prod.ext ?_ ?_)
    · (try dsimp only); omega
    · (try dsimp only); omega
    · (try dsimp only); omega
theorem mi_scL (L : List Bnd) (k : Nat) : (scL miS L (0, 0, 0, 0) k).2 = (zK (fun j => zK (fun i => eE (bE L j) (2 * i + 1) * eE (bE L j) (2 * i + 1) - eE (bE L j) (2 * i) * eE (bE L j) (2 * i)) ((bE L j).length / 2) * ((bd L j).2.1 - (bd L j).1)) k, zK (fun j => ((bd L j).2.1 * (bd L j).2.1 - (bd L j).1 * (bd L j).1) * lenE (bE L j) ((bE L j).length / 2)) k, zK (fun j => lenE (bE L j) ((bE L j).length / 2) * ((bd L j).2.1 - (bd L j).1)) k) := by
  induction k with
  | zero => rfl
  | succ k ih => rw [scL, mi_scE, ih, zK, zK, zK, lenE_z]
/-- a grid's weighted cells, row by row -/
theorem gr_sum {L : List Bnd} {g : Nat → Nat} (hr : rs L (gc g)) (w φ : Int → Int) (f : Nat → Nat → Nat) (hf : ∀ y x : Nat, x < 24 → y < 24 → ((f y x : Nat) : Int) = if gc g ((x : Nat) : Int) ((y : Nat) : Int) = true then w ((y : Nat) : Int) * φ ((x : Nat) : Int) else 0) : ((sm (fun y => sm (f y) 24) 24 : Nat) : Int) = zS (fun y => w y * rwS (rowL L y) φ) 24 := by
  rw [sm_z _ (fun y => w y * rwS (rowL L y) φ) 24 (fun y hy => ?_)]
  · rfl
  · rw [rs_rwS hr, sm_z _ (fun x => (if gc g x ((y : Nat) : Int) = true then φ x else 0) * w ((y : Nat) : Int)) 24 (fun x hx => ?_), zS_mulr, Int.mul_comm]
    · rfl
    · rw [hf y x hx hy]
      split
      · rw [Int.mul_comm]
      · rw [Int.zero_mul]
theorem mom_law {L : List Bnd} {g : Nat → Nat} (hg : gok g) (hr : rs L (gc g)) : (scL moS L (0, 0) L.length).2 = ((momV g : Nat) : Int) := by
  have hb := gc_box hg
  have e0 : momV g = sm (fun y => sm (fun x => if gc g x y = true then x * x else 0) 24) 24 + sm (fun y => sm (fun x => if gc g x y = true then y * y else 0) 24) 24 := by
    unfold momV
    rw [sm_add2]
    refine sm_ext (fun y hy => ?_)
    try dsimp only
    rw [sm_add2]
    refine sm_ext (fun x hx => ?_)
    unfold momR
    try dsimp only
    split <;> rfl
  rw [e0, Int.natCast_add, gr_sum hr (fun _ => 1) (fun x => x * x) _ (fun y x _ _ => by split <;> simp), gr_sum hr (fun y => y * y) (fun _ => 1) _ (fun y x _ _ => by split <;> simp), rg_sum hr hb, rg_sum hr hb, ← zK_add, mo_scL]
  refine zK_ext (fun j hj => ?_)
  have h0 := rs_hts hr hb hj
  have h1 := (hr.1.1 j hj).1
  have hc := hr.1.1 j hj
  rw [zS_c _ (by omega), zS_c _ (by omega), Int.mul_one, Int.mul_one, sq_z (by omega) (by omega), sq_z (by omega) (by omega), rwS_len hc.2.1 (rs_cols hr hb hj), rwS_eq hc.2.1 (rs_cols hr hb hj)]
  rw [Int.mul_comm ((bd L j).2.1 - (bd L j).1)]
  congr 2
  refine zK_ext (fun i hi => ?_)
  have hev := hc.2.1.1
  have k0 := rs_ends hr hb hj (i := 2 * i) (by omega)
  have k1 := rs_ends hr hb hj (i := 2 * i + 1) (by omega)
  rw [sq_z k0.1 k0.2, sq_z k1.1 k1.2]
theorem mid_law {L : List Bnd} {g : Nat → Nat} (hg : gok g) (hr : rs L (gc g)) : (scL miS L (0, 0, 0, 0) L.length).2 = (((midX g : Nat) : Int), ((midY g : Nat) : Int), ((cnt g : Nat) : Int)) := by
  have hb := gc_box hg
  rw [mi_scL]
  refine Prod.ext ?_ (Prod.ext ?_ ?_)
  · try dsimp only
    unfold midX
    rw [gr_sum hr (fun _ => 1) (fun x => 2 * x + 1) _ (fun y x _ _ => by unfold midR; split <;> simp), rg_sum hr hb]
    refine zK_ext (fun j hj => ?_)
    have h0 := rs_hts hr hb hj
    have h1 := (hr.1.1 j hj).1
    have hc := hr.1.1 j hj
    rw [zS_c _ (by omega), zS_c _ (by omega), Int.mul_one, Int.mul_one, rwS_eq hc.2.1 (rs_cols hr hb hj), Int.mul_comm]
    congr 1
    refine zK_ext (fun i hi => ?_)
    have hev := hc.2.1.1
    have k0 := rs_ends hr hb hj (i := 2 * i) (by omega)
    have k1 := rs_ends hr hb hj (i := 2 * i + 1) (by omega)
    rw [od_z k0.1 k0.2, od_z k1.1 k1.2]
  · try dsimp only
    have e0 : midY g = sm (fun y => sm (fun x => if gc g x y = true then 2 * y + 1 else 0) 24) 24 := by
      unfold midY
      refine sm_ext (fun y hy => ?_)
      have : ((((2 * y + 1) * pop 32 (g y) : Nat)) : Int) = ((sm (fun x => if gc g x y = true then 2 * y + 1 else 0) 24 : Nat) : Int) := by
        rw [sm_z _ (fun x => (if gc g x ((y : Nat) : Int) = true then 1 else 0) * (((2 * y + 1 : Nat)) : Int)) 24 (fun x hx => by split <;> simp), zS_mulr, Int.natCast_mul, Int.mul_comm]
        congr 1
        exact pop_N (N := 24) (by decide) (hg.1 y) (fun x => gc g x ((y : Nat) : Int)) (fun x hx => (gc_nat g x y).symm)
      exact Int.ofNat_inj.mp this
    rw [e0, gr_sum hr (fun y => 2 * y + 1) (fun _ => 1) _ (fun y x _ _ => by split <;> simp), rg_sum hr hb]
    refine zK_ext (fun j hj => ?_)
    have h0 := rs_hts hr hb hj
    have h1 := (hr.1.1 j hj).1
    have hc := hr.1.1 j hj
    rw [od_z (by omega) (by omega), od_z (by omega) (by omega), rwS_len hc.2.1 (rs_cols hr hb hj)]
  · try dsimp only
    rw [← cN_cnt hg, ← ar_area hr hb, ar_scL]
