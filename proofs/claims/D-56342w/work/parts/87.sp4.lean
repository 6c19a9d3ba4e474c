set_option maxRecDepth 100000
/-! PLAIN LAWS: sums over cells, by bands and spans -/
def zN (f : Int → Int) : Nat → Int
  | 0 => 0
  | k + 1 => zN f k + f ((k : Nat) : Int)
def zS (f : Int → Int) (t : Int) : Int := zN f t.toNat
def zK (c : Nat → Int) : Nat → Int
  | 0 => 0
  | k + 1 => zK c k + c k
theorem zK_ext {c d : Nat → Int} {k : Nat} (h : ∀ i, i < k → c i = d i) : zK c k = zK d k := by
  induction k with
  | zero => rfl
  | succ k ih => rw [zK, zK, ih (fun i hi => h i (by omega)), h k (by omega)]
theorem zN_ext {f g : Int → Int} {k : Nat} (h : ∀ i : Nat, i < k → f i = g i) : zN f k = zN g k := by
  induction k with
  | zero => rfl
  | succ k ih => rw [zN, zN, ih (fun i hi => h i (by omega)), h k (by omega)]
/-- on an interval -/
theorem zN_iv {f g : Int → Int} {a b : Nat} (hab : a ≤ b) (h : ∀ i : Nat, a ≤ i → i < b → f i = g i) : zN f b - zN f a = zN g b - zN g a := by
  induction b with
  | zero => rw [show a = 0 by omega]; simp [zN]
  | succ b ih =>
    by_cases e : a = b + 1
    · subst e; omega
    · have := ih (by omega) (fun i h1 h2 => h i h1 (by omega))
      rw [zN, zN, h b (by omega) (by omega)]; omega
theorem zS_iv {f g : Int → Int} {a b : Int} (ha : 0 ≤ a) (hab : a ≤ b) (h : ∀ y, a ≤ y → y < b → f y = g y) : zS f b - zS f a = zS g b - zS g a :=
  zN_iv (by omega) (fun i h1 h2 => h i (by omega) (by omega))
theorem zN_0 (k : Nat) : zN (fun _ => 0) k = 0 := by
  induction k with
  | zero => rfl
  | succ k ih => rw [zN, ih]; rfl
theorem zS_zero {f : Int → Int} {a b : Int} (ha : 0 ≤ a) (hab : a ≤ b) (h : ∀ y, a ≤ y → y < b → f y = 0) : zS f b = zS f a := by
  have := zS_iv (g := fun _ => 0) ha hab h
  unfold zS at this ⊢
  rw [zN_0, zN_0] at this; omega
/-- a sum of what lies in intervals -/
theorem iv_sum (a b : Nat → Int) (k : Nat) (N : Int) (hN : 0 ≤ N) (h : ∀ i, i < k → 0 ≤ a i ∧ a i < b i ∧ b i ≤ N) (hs : ∀ i, i + 1 < k → b i ≤ a (i + 1)) (f : Int → Int) (hf : ∀ y, 0 ≤ y → y < N → (∀ i, i < k → ¬ (a i ≤ y ∧ y < b i)) → f y = 0) :
    zS f N = zK (fun i => zS f (b i) - zS f (a i)) k := by
  have up : ∀ i j, i < j → j < k → b i ≤ a j := by
    intro i j hij hj
    induction j with
    | zero => omega
    | succ j ih =>
      have h1 := hs j hj
      by_cases e : i = j
      · subst e; exact h1
      · have := ih (by omega) (by omega); have := h j (by omega); omega
  have key : ∀ m, m ≤ k → zK (fun i => zS f (b i) - zS f (a i)) m = zS f (if m = 0 then 0 else b (m - 1)) := by
    intro m
    induction m with
    | zero => intro _; rfl
    | succ m ih =>
      intro hm
      have hm1 := h m (by omega)
      have e1 : zS f (a m) = zS f (if m = 0 then 0 else b (m - 1)) := by
        refine zS_zero ?_ ?_ (fun y y1 y2 => hf y ?_ (by omega) (fun i hi z => ?_))
        · split
          · exact Int.le_refl _
          · have := h (m - 1) (by omega); omega
        · split
          · exact hm1.1
          · exact up (m - 1) m (by omega) (by omega)
        · revert y1; split
          · intro y1; exact y1
          · intro y1; have := h (m - 1) (by omega); omega
        · by_cases c : i < m
          · revert y1; rw [if_neg (by omega)]; intro y1
            by_cases c2 : i = m - 1
            · subst c2; omega
            · have := up i (m - 1) (by omega) (by omega); have := h (m - 1) (by omega); omega
          · by_cases c2 : i = m
            · subst c2; omega
            · have := up m i (by omega) hi; omega
      rw [zK, ih (by omega), if_neg (Nat.succ_ne_zero m), Nat.add_sub_cancel, ← e1]; omega
  rw [key k (Nat.le_refl _)]
  by_cases e : k = 0
  · subst e
    rw [if_pos rfl]
    exact zS_zero (Int.le_refl _) hN (fun y y1 y2 => hf y y1 y2 (fun i hi => absurd hi (Nat.not_lt_zero _)))
  · rw [if_neg e]
    have hk := h (k - 1) (by omega)
    refine zS_zero (by omega) hk.2.2 (fun y y1 y2 => hf y (by omega) y2 (fun i hi z => ?_))
    by_cases c2 : i = k - 1
    · subst c2; omega
    · have := up i (k - 1) (by omega) (by omega); omega
/-- bands and rows -/
theorem bd_sum {L : List Bnd} {S : Int → Int → Bool} (h : rs L S) (hb : inBox S 0 24 0 24) (f : Int → Int) (N : Int) (hN : 24 ≤ N) (hf : ∀ y, 0 ≤ y → y < N → rowL L y = [] → f y = 0) : zS f N = zK (fun j => zS f (bd L j).2.1 - zS f (bd L j).1) L.length :=
  iv_sum (fun j => (bd L j).1) (fun j => (bd L j).2.1) L.length N (by omega) (fun j hj => by have := rs_hts h hb hj; have := (h.1.1 j hj).1; omega) (fun j hj => (h.1.2 j hj).1) f (fun y h1 h2 h3 => hf y h1 h2 (row_no h3))
theorem sp_sum {E : List Int} (h : cnE E) (hb : ∀ x, mE E x = true → 0 ≤ x ∧ x < 24) (f : Int → Int) (N : Int) (hN : 24 ≤ N) (hf : ∀ x, 0 ≤ x → x < N → mE E x = false → f x = 0) : zS f N = zK (fun i => zS f (eE E (2 * i + 1)) - zS f (eE E (2 * i))) (E.length / 2) := by
  have hev := h.1
  refine iv_sum (fun i => eE E (2 * i)) (fun i => eE E (2 * i + 1)) (E.length / 2) N (by omega) (fun i hi => ?_) (fun i hi => ?_) f (fun x h1 h2 h3 => hf x h1 h2 ?_)
  · have := cn_rg h hb (i := 2 * i) (by omega); have := cn_rg h hb (i := 2 * i + 1) (by omega); have := h.2 (2 * i) (by omega); omega
  · have := h.2 (2 * i + 1) (by omega); rw [show 2 * (i + 1) = 2 * i + 1 + 1 by omega]; omega
  · cases hm : mE E x
    · rfl
    · obtain ⟨i, i1, i2, i3⟩ := mE_iff.mp hm
      exact absurd ⟨i2, i3⟩ (h3 i (by omega))
theorem zK_mul (c : Nat → Int) (m : Int) (k : Nat) : zK (fun i => c i * m) k = zK c k * m := by
  induction k with
  | zero => simp [zK]
  | succ k ih => rw [zK, zK, ih, Int.add_mul]
theorem zK_add (c d : Nat → Int) (k : Nat) : zK (fun i => c i + d i) k = zK c k + zK d k := by
  induction k with
  | zero => rfl
  | succ k ih => rw [zK, zK, zK, ih]; omega
theorem zN_add (f g : Int → Int) (k : Nat) : zN (fun y => f y + g y) k = zN f k + zN g k := by
  induction k with
  | zero => rfl
  | succ k ih => rw [zN, zN, zN, ih]; omega
theorem zS_add (f g : Int → Int) (t : Int) : zS (fun y => f y + g y) t = zS f t + zS g t := zN_add f g _
theorem zN_c (c : Int) (k : Nat) : zN (fun _ => c) k = ((k : Nat) : Int) * c := by
  induction k with
  | zero => simp [zN]
  | succ k ih => rw [zN, ih, Int.natCast_add, Int.add_mul]; simp
theorem zS_c (c : Int) {t : Int} (h : 0 ≤ t) : zS (fun _ => c) t = t * c := by
  rw [zS, zN_c, Int.toNat_of_nonneg h]
theorem zN_mulr (f : Int → Int) (c : Int) (k : Nat) : zN (fun y => f y * c) k = zN f k * c := by
  induction k with
  | zero => simp [zN]
  | succ k ih => rw [zN, zN, ih, Int.add_mul]
theorem zS_mulr (f : Int → Int) (c t : Int) : zS (fun y => f y * c) t = zS f t * c := zN_mulr f c _
theorem sub_mul_ (a b c : Int) : a * c - b * c = (a - b) * c := (Int.sub_mul a b c).symm
/-- one at the begin of an interval, none behind -/
theorem zS_one {f : Int → Int} {a b c : Int} (ha : 0 ≤ a) (hab : a < b) (h1 : f a = c) (h2 : ∀ y, a < y → y < b → f y = 0) : zS f b - zS f a = c := by
  have h3 := zS_zero (f := f) (a := a + 1) (b := b) (by omega) (by omega) (fun y y1 y2 => h2 y (by omega) y2)
  rw [h3]
  have : zS f (a + 1) = zS f a + f a := by
    unfold zS
    rw [show (a + 1).toNat = a.toNat + 1 by omega, zN, show ((a.toNat : Nat) : Int) = a by omega]
  rw [this, h1]; omega
theorem zS_oneR {f : Int → Int} {a b c : Int} (ha : 0 ≤ a) (hab : a < b) (h1 : f (b - 1) = c) (h2 : ∀ y, a ≤ y → y < b - 1 → f y = 0) : zS f b - zS f a = c := by
  have h3 := zS_zero (f := f) (a := a) (b := b - 1) ha (by omega) (fun y y1 y2 => h2 y y1 y2)
  rw [← h3]
  have : zS f b = zS f (b - 1) + f (b - 1) := by
    unfold zS
    rw [show b.toNat = (b - 1).toNat + 1 by omega, zN, show (((b - 1).toNat : Nat) : Int) = b - 1 by omega]
  rw [this, h1]; omega
/-- columns of a row, weighted -/
def rwS (E : List Int) (φ : Int → Int) : Int := zS (fun x => if mE E x = true then φ x else 0) 24
theorem rwS_nil (φ : Int → Int) : rwS [] φ = 0 := by
  unfold rwS
  have : (fun x => if mE [] x = true then φ x else 0) = fun _ => 0 := by funext x; rw [mE_nil, if_neg Bool.false_ne_true]
  rw [this]; exact zN_0 _
theorem rwS_eq {E : List Int} (h : cnE E) (hb : ∀ x, mE E x = true → 0 ≤ x ∧ x < 24) (φ : Int → Int) : rwS E φ = zK (fun i => zS φ (eE E (2 * i + 1)) - zS φ (eE E (2 * i))) (E.length / 2) := by
  have hev := h.1
  unfold rwS
  rw [sp_sum h hb _ 24 (Int.le_refl _) (fun x _ _ hm => by rw [if_neg (by rw [hm]; exact Bool.false_ne_true)])]
  refine zK_ext (fun i hi => ?_)
  have h0 := cn_rg h hb (i := 2 * i) (by omega)
  have h1 := h.2 (2 * i) (by omega)
  exact zS_iv h0.1 (Int.le_of_lt h1) (fun y y1 y2 => if_pos (mE_iff.mpr ⟨i, by omega, y1, y2⟩))
theorem lenE_z (E : List Int) (k : Nat) : lenE E k = zK (fun i => eE E (2 * i + 1) - eE E (2 * i)) k := by
  induction k with
  | zero => rfl
  | succ k ih => rw [lenE, zK, ih]
/-- the number of columns -/
theorem rwS_len {E : List Int} (h : cnE E) (hb : ∀ x, mE E x = true → 0 ≤ x ∧ x < 24) : rwS E (fun _ => 1) = lenE E (E.length / 2) := by
  have hev := h.1
  rw [rwS_eq h hb, lenE_z]
  refine zK_ext (fun i hi => ?_)
  have h0 := cn_rg h hb (i := 2 * i) (by omega)
  have h1 := cn_rg h hb (i := 2 * i + 1) (by omega)
  rw [zS_c _ h0.1, zS_c _ h1.1]; omega
/-- rows of a region, weighted by the row and its columns -/
theorem rg_sum {L : List Bnd} {S : Int → Int → Bool} (h : rs L S) (hb : inBox S 0 24 0 24) (w : Int → Int) (φ : Int → Int) : zS (fun y => w y * rwS (rowL L y) φ) 24 = zK (fun j => (zS w (bd L j).2.1 - zS w (bd L j).1) * rwS (bE L j) φ) L.length := by
  rw [bd_sum h hb _ 24 (Int.le_refl _) (fun y _ _ hm => by rw [hm, rwS_nil, Int.mul_zero])]
  refine zK_ext (fun j hj => ?_)
  have h0 := rs_hts h hb hj
  have h1 := (h.1.1 j hj).1
  rw [zS_iv (g := fun y => w y * rwS (bE L j) φ) h0.1 (Int.le_of_lt h1) (fun y y1 y2 => by rw [row_at h.1 hj y1 y2]), zS_mulr, zS_mulr, sub_mul_]
/-- the scans' sums -/
theorem ar_scE (lo hi : Int) (E : List Int) (s : Int × Int) (k : Nat) : scE arS lo hi E s k = (s.1 + ((k : Nat) : Int), s.2 + zK (fun i => eE E (2 * i + 1) - eE E (2 * i)) k * (hi - lo)) := by
  induction k with
  | zero => simp [scE, zK]
  | succ k ih =>
    rw [scE, ih, arS, zK, Int.add_mul]
    refine Prod.ext ?_ ?_
    · dsimp only; omega
    · dsimp only; omega
theorem ar_scL (L : List Bnd) (k : Nat) : scL arS L (0, 0) k = (zK (fun j => (((bE L j).length / 2 : Nat) : Int)) k, zK (fun j => lenE (bE L j) ((bE L j).length / 2) * ((bd L j).2.1 - (bd L j).1)) k) := by
  induction k with
  | zero => rfl
  | succ k ih => rw [scL, ih, ar_scE, zK, zK, lenE_z]
/-- the cells of a region, counted row by row -/
def cN (S : Int → Int → Bool) : Int := zS (fun y => zS (fun x => if S x y = true then 1 else 0) 24) 24
theorem rs_rwS {L : List Bnd} {S : Int → Int → Bool} (h : rs L S) (y : Int) (φ : Int → Int) : rwS (rowL L y) φ = zS (fun x => if S x y = true then φ x else 0) 24 := by
  unfold rwS
  congr 1
  funext x
  rw [h.2 x y]
theorem ar_area {L : List Bnd} {S : Int → Int → Bool} (h : rs L S) (hb : inBox S 0 24 0 24) : (scL arS L (0, 0) L.length).2 = cN S := by
  have h1 := rg_sum h hb (fun _ => 1) (fun _ => 1)
  rw [ar_scL]
  unfold cN
  have e1 : (fun y => zS (fun x => if S x y = true then 1 else 0) 24) = fun y => 1 * rwS (rowL L y) (fun _ => 1) := by funext y; rw [Int.one_mul, rs_rwS h y]
  rw [e1, h1]
  refine zK_ext (fun j hj => ?_)
  have h0 := rs_hts h hb hj
  have h2 := (h.1.1 j hj).1
  rw [rwS_len (h.1.1 j hj).2.1 (rs_cols h hb hj), zS_c _ (by omega), zS_c _ (by omega), Int.mul_one, Int.mul_one, Int.mul_comm]
