set_option maxRecDepth 100000
/-! PLAIN LAWS: moved, widened, mirrored, grown, turned .. -/
theorem sp_add_iff {E : List Int} (h : cnE E) {l r : Int} (hl : lsE E l) (x : Int) : mE (spadd E l r) x = true ↔ mE E x = true ∨ (l ≤ x ∧ x < r) := by
  rw [(sp_add h hl).2.1 x, Bool.or_eq_true, Bool.and_eq_true, decide_eq_true_eq, decide_eq_true_eq]
theorem mv_inv {E : List Int} (hE : cnE E) (dl dr : Int) (k : Nat) (hk : 2 * k ≤ E.length) : cnE (mvE E dl dr k) ∧ (∀ x, mE (mvE E dl dr k) x = true ↔ ∃ i, i < k ∧ eE E (2 * i) + dl ≤ x ∧ x < eE E (2 * i + 1) + dr) ∧ ∀ l, (∀ i, i < k → eE E (2 * i) + dl ≤ l) → lsE (mvE E dl dr k) l := by
  induction k with
  | zero => exact ⟨cn_nil, fun x => ⟨fun h => absurd (show mE [] x = true from h) (by rw [mE_nil]; exact Bool.false_ne_true), fun ⟨i, hi, _⟩ => by omega⟩, fun l _ => ls_nil l⟩
  | succ k ih =>
    obtain ⟨h1, h2, h3⟩ := ih (by omega)
    have hl := h3 (eE E (2 * k) + dl) (fun i hi => by have := cn_lt hE (show 2 * i < 2 * k by omega) (by omega); omega)
    rw [mvE]
    refine ⟨(sp_add h1 hl).1, fun x => ?_, fun l h4 => (sp_add h1 hl).2.2 l (h4 k (by omega))⟩
    rw [sp_add_iff h1 hl, h2 x]
    constructor
    · rintro (⟨i, a, b⟩ | a)
      · exact ⟨i, by omega, b⟩
      · exact ⟨k, by omega, a⟩
    · rintro ⟨i, a, b⟩
      by_cases e : i = k
      · subst e; exact Or.inr b
      · exact Or.inl ⟨i, by omega, b⟩
theorem mv_moved {E : List Int} (hE : cnE E) (d : Int) : cnE (mvE E d d (E.length / 2)) ∧ ∀ x, mE (mvE E d d (E.length / 2)) x = mE E (x - d) := by
  obtain ⟨h1, h2, h3⟩ := mv_inv hE d d (E.length / 2) (by omega)
  refine ⟨h1, fun x => b_iff ?_⟩
  rw [h2 x, mE_iff]
  constructor
  · rintro ⟨i, a, b, c⟩; exact ⟨i, by omega, by omega, by omega⟩
  · rintro ⟨i, a, b, c⟩; exact ⟨i, by omega, by omega, by omega⟩
theorem mv_wide {E : List Int} (hE : cnE E) {d : Int} (hd : 0 ≤ d) : cnE (mvE E (-d) d (E.length / 2)) ∧ ∀ x, mE (mvE E (-d) d (E.length / 2)) x = true ↔ ∃ x', mE E x' = true ∧ x - d ≤ x' ∧ x' ≤ x + d := by
  obtain ⟨h1, h2, h3⟩ := mv_inv hE (-d) d (E.length / 2) (by omega)
  refine ⟨h1, fun x => ?_⟩
  rw [h2 x]
  constructor
  · rintro ⟨i, a, b, c⟩
    have hlt := hE.2 (2 * i) (by omega)
    by_cases c1 : x < eE E (2 * i)
    · exact ⟨eE E (2 * i), mE_left hE (by omega), by omega, by omega⟩
    · by_cases c2 : eE E (2 * i + 1) ≤ x
      · exact ⟨eE E (2 * i + 1) - 1, mE_right hE (by omega), by omega, by omega⟩
      · exact ⟨x, mE_iff.mpr ⟨i, by omega, by omega, by omega⟩, by omega, by omega⟩
  · rintro ⟨x', a, b, c⟩
    obtain ⟨i, i1, i2, i3⟩ := mE_iff.mp a
    exact ⟨i, by omega, by omega, by omega⟩
theorem mr_inv {E : List Int} (hE : cnE E) (k : Nat) (hk : 2 * k ≤ E.length) : cnE (mrE E (E.length / 2) k) ∧ (∀ x, mE (mrE E (E.length / 2) k) x = true ↔ ∃ i, E.length / 2 - k ≤ i ∧ 2 * i + 1 < E.length ∧ 24 - eE E (2 * i + 1) ≤ x ∧ x < 24 - eE E (2 * i)) ∧ ∀ l, (∀ i, E.length / 2 - k ≤ i → 2 * i + 1 < E.length → 24 - eE E (2 * i + 1) ≤ l) → lsE (mrE E (E.length / 2) k) l := by
  have hev := hE.1
  induction k with
  | zero => exact ⟨cn_nil, fun x => ⟨fun h => absurd (show mE [] x = true from h) (by rw [mE_nil]; exact Bool.false_ne_true), fun ⟨i, hi, h2, _⟩ => by omega⟩, fun l _ => ls_nil l⟩
  | succ k ih =>
    obtain ⟨h1, h2, h3⟩ := ih (by omega)
    obtain ⟨q, hq⟩ : ∃ q, q = E.length / 2 - 1 - k := ⟨_, rfl⟩
    have hl := h3 (24 - eE E (2 * q + 1)) (fun i hi h9 => by have := cn_lt hE (show 2 * q + 1 < 2 * i + 1 by omega) (by omega); omega)
    rw [mrE, ← hq]
    refine ⟨(sp_add h1 hl).1, fun x => ?_, fun l h4 => (sp_add h1 hl).2.2 l (h4 q (by omega) (by omega))⟩
    rw [sp_add_iff h1 hl, h2 x]
    constructor
    · rintro (⟨i, a, b⟩ | a)
      · exact ⟨i, by omega, b⟩
      · exact ⟨q, by omega, by omega, a⟩
    · rintro ⟨i, a, b, c⟩
      by_cases e : i = q
      · subst e; exact Or.inr c
      · exact Or.inl ⟨i, by omega, b, c⟩
theorem mr_set {E : List Int} (hE : cnE E) : cnE (mrE E (E.length / 2) (E.length / 2)) ∧ ∀ x, mE (mrE E (E.length / 2) (E.length / 2)) x = mE E (23 - x) := by
  obtain ⟨h1, h2, h3⟩ := mr_inv hE (E.length / 2) (by omega)
  refine ⟨h1, fun x => b_iff ?_⟩
  rw [h2 x, mE_iff]
  constructor
  · rintro ⟨i, a, b, c, d⟩; exact ⟨i, b, by omega, by omega⟩
  · rintro ⟨i, a, b, c⟩; exact ⟨i, by omega, a, by omega, by omega⟩
/-! bands mapped one by one -/
theorem map_set {L : List Bnd} (h : cbL L) (u : Int) (φ : List Int → List Int) (hφ : ∀ E, cnE E → cnE (φ E)) (hφ0 : φ [] = []) (R : Nat → List Bnd) (h0 : R 0 = []) (hs : ∀ k, R (k + 1) = radd (R k) ((bd L k).1 + u) ((bd L k).2.1 + u) (φ (bE L k))) : cbL (R L.length) ∧ ∀ y, rowL (R L.length) y = φ (rowL L (y - u)) := by
  have key : ∀ k, k ≤ L.length → cbL (R k) ∧ (∀ t, (∀ j, j < k → (bd L j).2.1 + u ≤ t) → tbL (R k) t) ∧ (∀ j, j < k → ∀ y, (bd L j).1 + u ≤ y → y < (bd L j).2.1 + u → rowL (R k) y = φ (bE L j)) ∧ ∀ y, (∀ j, j < k → ¬ ((bd L j).1 + u ≤ y ∧ y < (bd L j).2.1 + u)) → rowL (R k) y = [] := by
    intro k
    induction k with
    | zero =>
      intro _
      rw [h0]
      exact ⟨cb_nil, fun t _ => Or.inl rfl, fun j hj => absurd hj (Nat.not_lt_zero _), fun y _ => rfl⟩
    | succ k ih =>
      intro hk
      obtain ⟨h1, h2, h3, h4⟩ := ih (by omega)
      have hb := h.1 k (by omega)
      have hup : ∀ j, j < k → (bd L j).2.1 ≤ (bd L k).1 := fun j hj => cb_up h hj (by omega)
      obtain ⟨r1, r2, r3⟩ := ra_set h1 (hi := (bd L k).2.1 + u) (h2 ((bd L k).1 + u) (fun j hj => by have := hup j hj; omega)) (hφ _ hb.2.1)
      rw [← hs] at r1 r2 r3
      refine ⟨r1, fun t ht => ?_, fun j hj y y1 y2 => ?_, fun y hy => ?_⟩
      · have := ht k (by omega)
        exact r3 t (by omega) this
      · rw [r2 y]
        by_cases e : j = k
        · subst e; rw [if_pos ⟨y1, y2⟩]
        · have := hup j (by omega)
          rw [if_neg (by omega)]
          exact h3 j (by omega) y y1 y2
      · rw [r2 y, if_neg (hy k (by omega))]
        exact h4 y (fun j hj => hy j (by omega))
  obtain ⟨h1, h2, h3, h4⟩ := key L.length (Nat.le_refl _)
  refine ⟨h1, fun y => ?_⟩
  rcases row_cases h (y - u) with ⟨j, a, b, c, d⟩ | ⟨a, b⟩
  · rw [d]; exact h3 j a y (by omega) (by omega)
  · rw [b, hφ0]
    exact h4 y (fun j hj z => a j hj ⟨by omega, by omega⟩)
theorem mov_set {L : List Bnd} {S : Int → Int → Bool} (h : rs L S) (r u : Int) : rs (movF L r u L.length) (fun x y => S (x - r) (y - u)) := by
  obtain ⟨h1, h2⟩ := map_set h.1 u (fun E => mvE E r r (E.length / 2)) (fun E hE => (mv_moved hE r).1) rfl (movF L r u) rfl (fun k => rfl)
  refine ⟨h1, fun x y => ?_⟩
  rw [h2 y, (mv_moved (row_cn h.1 (y - u)) r).2 x, h.2]
theorem mir_set {L : List Bnd} {S : Int → Int → Bool} (h : rs L S) : rs (mirF L L.length) (fun x y => S (23 - x) y) := by
  obtain ⟨h1, h2⟩ := map_set h.1 0 (fun E => mrE E (E.length / 2) (E.length / 2)) (fun E hE => (mr_set hE).1) rfl (mirF L) rfl (fun k => by rw [Int.add_zero, Int.add_zero]; rfl)
  refine ⟨h1, fun x y => ?_⟩
  rw [h2 y, (mr_set (row_cn h.1 (y - 0))).2 x, h.2, Int.sub_zero]
theorem wdn_set {L : List Bnd} (h : cbL L) {d : Int} (hd : 0 ≤ d) : cbL (wdnF L d L.length) ∧ ∀ y x, mE (rowL (wdnF L d L.length) y) x = true ↔ ∃ x', mE (rowL L y) x' = true ∧ x - d ≤ x' ∧ x' ≤ x + d := by
  obtain ⟨h1, h2⟩ := map_set h 0 (fun E => mvE E (-d) d (E.length / 2)) (fun E hE => (mv_wide hE hd).1) rfl (wdnF L d) rfl (fun k => by rw [Int.add_zero, Int.add_zero]; rfl)
  refine ⟨h1, fun y x => ?_⟩
  rw [h2 y, Int.sub_zero]
  exact (mv_wide (row_cn h y) hd).2 x
theorem sar_set {L : List Bnd} (h : cbL L) (y d : Int) (k : Nat) (hk : k ≤ L.length) : cnE (sarF L y d k) ∧ ∀ x, mE (sarF L y d k) x = true ↔ ∃ j, j < k ∧ ((bd L j).1 - d ≤ y ∧ y < (bd L j).2.1 + d) ∧ mE (bE L j) x = true := by
  induction k with
  | zero => exact ⟨cn_nil, fun x => ⟨fun h => absurd (show mE [] x = true from h) (by rw [mE_nil]; exact Bool.false_ne_true), fun ⟨j, hj, _⟩ => by omega⟩⟩
  | succ k ih =>
    obtain ⟨h1, h2⟩ := ih (by omega)
    rw [sarF]
    by_cases c : (bd L k).1 - d ≤ y ∧ y < (bd L k).2.1 + d
    · rw [if_pos c]
      obtain ⟨c1, c2⟩ := cm_set h1 (h.1 k (by omega)).2.1 0
      refine ⟨c1, fun x => ?_⟩
      rw [c2 x]
      show (mE _ x || mE _ x) = true ↔ _
      rw [Bool.or_eq_true, h2 x]
      constructor
      · rintro (⟨j, a, b⟩ | a)
        · exact ⟨j, by omega, b⟩
        · exact ⟨k, by omega, c, a⟩
      · rintro ⟨j, a, b⟩
        by_cases e : j = k
        · subst e; exact Or.inr b.2
        · exact Or.inl ⟨j, by omega, b⟩
    · rw [if_neg c]
      refine ⟨h1, fun x => ?_⟩
      rw [h2 x]
      constructor
      · rintro ⟨j, a, b⟩; exact ⟨j, by omega, b⟩
      · rintro ⟨j, a, b⟩
        by_cases e : j = k
        · subst e; exact absurd b.1 c
        · exact ⟨j, by omega, b⟩
theorem sar_near {L : List Bnd} (h : cbL L) (y : Int) {d : Int} (hd : 0 ≤ d) (x : Int) : mE (sarF L y d L.length) x = true ↔ ∃ y', y - d ≤ y' ∧ y' ≤ y + d ∧ mE (rowL L y') x = true := by
  rw [(sar_set h y d L.length (Nat.le_refl _)).2 x]
  constructor
  · rintro ⟨j, a, b, c⟩
    have hb := h.1 j a
    by_cases c1 : y < (bd L j).1
    · exact ⟨(bd L j).1, by omega, by omega, by rw [row_at h a (Int.le_refl _) hb.1]; exact c⟩
    · by_cases c2 : (bd L j).2.1 ≤ y
      · exact ⟨(bd L j).2.1 - 1, by omega, by omega, by rw [row_at h a (by omega) (by omega)]; exact c⟩
      · exact ⟨y, by omega, by omega, by rw [row_at h a (by omega) (by omega)]; exact c⟩
  · rintro ⟨y', a, b, c⟩
    rcases row_cases h y' with ⟨j, i1, i2, i3, i4⟩ | ⟨i1, i2⟩
    · rw [i4] at c; exact ⟨j, i1, by omega, c⟩
    · rw [i2, mE_nil] at c; cases c
/-- rows one upon another, from y0 on -/
theorem rows_set (y0 : Int) (E : Int → List Int) (hE : ∀ y, cnE (E y)) (R : Nat → List Bnd) (h0 : R 0 = []) (hs : ∀ n, R (n + 1) = radd (R n) (y0 + ((n : Nat) : Int)) (y0 + ((n : Nat) : Int) + 1) (E (y0 + ((n : Nat) : Int)))) (n : Nat) : cbL (R n) ∧ tbL (R n) (y0 + ((n : Nat) : Int)) ∧ ∀ y, rowL (R n) y = if y0 ≤ y ∧ y < y0 + ((n : Nat) : Int) then E y else [] := by
  induction n with
  | zero =>
    rw [h0]
    refine ⟨cb_nil, Or.inl rfl, fun y => ?_⟩
    rw [if_neg (by omega)]; rfl
  | succ n ih =>
    obtain ⟨h1, h2, h3⟩ := ih
    obtain ⟨r1, r2, r3⟩ := ra_set h1 (hi := y0 + ((n : Nat) : Int) + 1) h2 (hE (y0 + ((n : Nat) : Int)))
    rw [← hs] at r1 r2 r3
    refine ⟨r1, r3 _ (by omega) (by omega), fun y => ?_⟩
    rw [r2 y, h3 y]
    by_cases e : y = y0 + ((n : Nat) : Int)
    · subst e; rw [if_pos (by omega), if_pos (by omega)]
    · rw [if_neg (by omega)]
      by_cases c : y0 ≤ y ∧ y < y0 + ((n : Nat) : Int)
      · rw [if_pos c, if_pos (by omega)]
      · rw [if_neg c, if_neg (by omega)]
/-- all within a square distance -/
noncomputable def dil (S : Int → Int → Bool) (d : Int) : Int → Int → Bool := fun x y => @decide (∃ x' y', S x' y' = true ∧ (x - d ≤ x' ∧ x' ≤ x + d) ∧ y - d ≤ y' ∧ y' ≤ y + d) (Classical.propDecidable _)
theorem dil_iff {S : Int → Int → Bool} {d x y : Int} : dil S d x y = true ↔ ∃ x' y', S x' y' = true ∧ (x - d ≤ x' ∧ x' ≤ x + d) ∧ y - d ≤ y' ∧ y' ≤ y + d := by
  unfold dil; exact @decide_eq_true_iff _ (Classical.propDecidable _)
theorem gro_set {L : List Bnd} {S : Int → Int → Bool} (h : rs L S) {d : Int} (hd : 0 ≤ d) : rs (groR L d) (dil S d) := by
  obtain ⟨w1, w2⟩ := wdn_set h.1 hd
  obtain ⟨r1, r2, r3⟩ := rows_set (lowF L - d) (fun y => sarF (wdnF L d L.length) y d (wdnF L d L.length).length) (fun y => (sar_set w1 y d _ (Nat.le_refl _)).1) (groF (wdnF L d L.length) (lowF L - d) d) rfl (fun n => rfl) (growT L d)
  refine ⟨r1, fun x y => b_iff ?_⟩
  show mE (rowL (groF (wdnF L d L.length) (lowF L - d) d (growT L d)) y) x = true ↔ _
  rw [r3 y, dil_iff]
  have hrow : mE (sarF (wdnF L d L.length) y d (wdnF L d L.length).length) x = true ↔ ∃ x' y', S x' y' = true ∧ (x - d ≤ x' ∧ x' ≤ x + d) ∧ y - d ≤ y' ∧ y' ≤ y + d := by
    rw [sar_near w1 y hd x]
    constructor
    · rintro ⟨y', a, b, c⟩
      obtain ⟨x', i, j, k⟩ := (w2 y' x).mp c
      exact ⟨x', y', by rw [← h.2]; exact i, ⟨j, k⟩, a, b⟩
    · rintro ⟨x', y', a, b, c⟩
      exact ⟨y', c.1, c.2, (w2 y' x).mpr ⟨x', by rw [h.2]; exact a, b⟩⟩
  by_cases c : lowF L - d ≤ y ∧ y < lowF L - d + ((growT L d : Nat) : Int)
  · rw [if_pos c]; exact hrow
  · rw [if_neg c, mE_nil]
    refine ⟨fun z => (by cases z), fun z => ?_⟩
    exfalso
    apply c
    obtain ⟨x', y', a, b, e⟩ := z
    rw [← h.2] at a
    rcases row_cases h.1 y' with ⟨j, i1, i2, i3, i4⟩ | ⟨i1, i2⟩
    · have hl : lowF L ≤ (bd L j).1 := by
        unfold lowF; rw [if_neg (by omega)]
        by_cases e : j = 0
        · subst e; exact Int.le_refl _
        · have := cb_up h.1 (show 0 < j by omega) i1; have := (h.1.1 0 (by omega)).1; omega
      have ht : (bd L j).2.1 ≤ (bd L (L.length - 1)).2.1 := by
        by_cases e : j = L.length - 1
        · rw [e]; exact Int.le_refl _
        · have := cb_up h.1 (show j < L.length - 1 by omega) (by omega); have := (h.1.1 (L.length - 1) (by omega)).1; omega
      unfold growT
      rw [if_neg (by omega)]
      omega
    · rw [i2, mE_nil] at a; cases a
theorem rec_set (l b r t : Int) : rs (recF l b r t) (fun x y => (decide (l ≤ x) && decide (x < r)) && (decide (b ≤ y) && decide (y < t))) := by
  obtain ⟨s1, s2, s3⟩ := sp_add cn_nil (r := r) (ls_nil l)
  obtain ⟨r1, r2, r3⟩ := ra_set cb_nil (lo := b) (hi := t) (Or.inl rfl) s1
  refine ⟨r1, fun x y => ?_⟩
  show mE (rowL (radd [] b t (spadd [] l r)) y) x = ((decide (l ≤ x) && decide (x < r)) && (decide (b ≤ y) && decide (y < t)))
  rw [r2 y]
  by_cases c : b ≤ y ∧ y < t
  · rw [if_pos c, s2 x, mE_nil, Bool.false_or, decide_eq_true c.1, decide_eq_true c.2, Bool.and_true, Bool.and_true]
  · rw [if_neg c]
    have : (decide (b ≤ y) && decide (y < t)) = false := by
      rw [Bool.and_eq_false_iff, decide_eq_false_iff_not, decide_eq_false_iff_not]; omega
    rw [this, Bool.and_false, show rowL [] y = [] from rfl, mE_nil]
theorem tr_inv {L : List Bnd} (h : cbL L) (x : Int) (k : Nat) (hk : k ≤ L.length) : cnE (trE L x k) ∧ (∀ y, mE (trE L x k) y = true ↔ ∃ j, L.length - k ≤ j ∧ j < L.length ∧ mE (bE L j) x = true ∧ 24 - (bd L j).2.1 ≤ y ∧ y < 24 - (bd L j).1) ∧ ∀ l, (∀ j, L.length - k ≤ j → j < L.length → 24 - (bd L j).2.1 ≤ l) → lsE (trE L x k) l := by
  induction k with
  | zero => exact ⟨cn_nil, fun y => ⟨fun h => absurd (show mE [] y = true from h) (by rw [mE_nil]; exact Bool.false_ne_true), fun ⟨j, h1, h2, _⟩ => by omega⟩, fun l _ => ls_nil l⟩
  | succ k ih =>
    obtain ⟨h1, h2, h3⟩ := ih (by omega)
    rw [trE]
    obtain ⟨q, hq⟩ : ∃ q, q = L.length - 1 - k := ⟨_, rfl⟩
    rw [← hq]
    by_cases c : inE (bE L q) x ((bE L q).length / 2) = true
    · rw [if_pos c]
      have hl := h3 (24 - (bd L q).2.1) (fun j j1 j2 => by have := cb_up h (show q < j by omega) j2; have := (h.1 j j2).1; omega)
      refine ⟨(sp_add h1 hl).1, fun y => ?_, fun l h4 => (sp_add h1 hl).2.2 l (h4 q (by omega) (by omega))⟩
      rw [sp_add_iff h1 hl, h2 y]
      constructor
      · rintro (⟨j, a, b⟩ | a)
        · exact ⟨j, by omega, b⟩
        · exact ⟨q, by omega, by omega, c, a⟩
      · rintro ⟨j, a, b, d, e⟩
        by_cases e9 : j = q
        · subst e9; exact Or.inr e
        · exact Or.inl ⟨j, by omega, b, d, e⟩
    · rw [if_neg c]
      refine ⟨h1, fun y => ?_, fun l h4 => h3 l (fun j a b => h4 j (by omega) b)⟩
      rw [h2 y]
      constructor
      · rintro ⟨j, a, b⟩; exact ⟨j, by omega, b⟩
      · rintro ⟨j, a, b, d, e⟩
        by_cases e9 : j = q
        · subst e9; exact absurd d c
        · exact ⟨j, by omega, b, d, e⟩
theorem tur_set {L : List Bnd} {S : Int → Int → Bool} (h : rs L S) (hb : inBox S 0 24 0 24) : rs (turF L 24) (fun x y => S y (23 - x)) := by
  obtain ⟨r1, r2, r3⟩ := rows_set 0 (fun y => trE L y L.length) (fun y => (tr_inv h.1 y _ (Nat.le_refl _)).1) (turF L) rfl (fun n => by rw [Int.zero_add]; rfl) 24
  refine ⟨r1, fun x y => b_iff ?_⟩
  rw [r3 y]
  have hrow : mE (trE L y L.length) x = true ↔ S y (23 - x) = true := by
    rw [(tr_inv h.1 y _ (Nat.le_refl _)).2.1 x]
    constructor
    · rintro ⟨j, a, b, c, d, e⟩
      rw [← rs_band h b (x := y) (y := 23 - x) (by omega) (by omega)]; exact c
    · intro z
      rw [← h.2] at z
      rcases row_cases h.1 (23 - x) with ⟨j, i1, i2, i3, i4⟩ | ⟨i1, i2⟩
      · rw [i4] at z; exact ⟨j, by omega, i1, z, by omega, by omega⟩
      · rw [i2, mE_nil] at z; cases z
  by_cases c : 0 ≤ y ∧ y < 0 + ((24 : Nat) : Int)
  · rw [if_pos c]; exact hrow
  · rw [if_neg c, mE_nil]
    exact ⟨fun z => (by cases z), fun z => absurd (hb _ _ z).1 (by omega)⟩
/-- rows made cell by cell -/
theorem cells_row (φ : Int → Bool) (R : Nat → List Int) (h0 : R 0 = []) (hs : ∀ n, R (n + 1) = spadd (R n) ((n : Nat) : Int) (if φ ((n : Nat) : Int) = true then ((n + 1 : Nat) : Int) else ((n : Nat) : Int))) (n : Nat) : cnE (R n) ∧ (∀ l, ((n : Nat) : Int) ≤ l + 1 → lsE (R n) l) ∧ ∀ x, mE (R n) x = true ↔ (0 ≤ x ∧ x < ((n : Nat) : Int)) ∧ φ x = true := by
  induction n with
  | zero =>
    rw [h0]
    exact ⟨cn_nil, fun l _ => ls_nil l, fun x => ⟨fun h => (by cases h), fun h => by omega⟩⟩
  | succ n ih =>
    obtain ⟨h1, h2, h3⟩ := ih
    have hl := h2 ((n : Nat) : Int) (by omega)
    obtain ⟨a1, a2, a3⟩ := sp_add h1 (r := if φ ((n : Nat) : Int) = true then ((n + 1 : Nat) : Int) else ((n : Nat) : Int)) hl
    rw [← hs] at a1 a3
    refine ⟨a1, fun l h4 => a3 l (by omega), fun x => ?_⟩
    rw [hs, sp_add_iff h1 hl, h3 x]
    by_cases e : x = ((n : Nat) : Int)
    · subst e
      by_cases c : φ ((n : Nat) : Int) = true
      · rw [if_pos c]
        exact ⟨fun _ => ⟨by omega, c⟩, fun _ => Or.inr (by omega)⟩
      · rw [if_neg c]
        refine ⟨fun z => ?_, fun z => absurd z.2 c⟩
        rcases z with z | z <;> omega
    · constructor
      · rintro (z | z)
        · exact ⟨by omega, z.2⟩
        · exfalso; revert z; split <;> omega
      · rintro ⟨z1, z2⟩
        exact Or.inl ⟨by omega, z2⟩
