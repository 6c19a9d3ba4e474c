set_option maxRecDepth 100000
/-! PLAIN LAWS: regions as sets of cells -/
def cbL (L : List Bnd) : Prop := (∀ j, j < L.length → (bd L j).1 < (bd L j).2.1 ∧ cnE (bE L j) ∧ 2 ≤ (bE L j).length) ∧ ∀ j, j + 1 < L.length → (bd L j).2.1 ≤ (bd L (j + 1)).1 ∧ ((bd L j).2.1 = (bd L (j + 1)).1 → bE L j ≠ bE L (j + 1))
theorem cb_nil : cbL [] := ⟨fun j h => absurd h (Nat.not_lt_zero j), fun j h => absurd h (Nat.not_lt_zero _)⟩
theorem cb_up {L : List Bnd} (h : cbL L) {i j : Nat} (hij : i < j) (hj : j < L.length) : (bd L i).2.1 ≤ (bd L j).1 := by
  induction j with
  | zero => omega
  | succ j ih =>
    have h1 := (h.2 j hj).1
    by_cases e : i = j
    · subst e; exact h1
    · have := ih (by omega) (by omega); have := (h.1 j (by omega)).1; omega
theorem row_at {L : List Bnd} (h : cbL L) {j : Nat} (hj : j < L.length) {y : Int} (h1 : (bd L j).1 ≤ y) (h2 : y < (bd L j).2.1) : rowL L y = bE L j := by
  refine rowL_hit hj (fun i hi z => ?_) ⟨h1, by omega⟩
  have := cb_up h hi hj
  omega
theorem row_no {L : List Bnd} {y : Int} (h : ∀ j, j < L.length → ¬ ((bd L j).1 ≤ y ∧ y < (bd L j).2.1)) : rowL L y = [] :=
  rowL_none (fun j hj z => h j hj ⟨z.1, by omega⟩)
theorem row_cases {L : List Bnd} (h : cbL L) (y : Int) : (∃ j, j < L.length ∧ (bd L j).1 ≤ y ∧ y < (bd L j).2.1 ∧ rowL L y = bE L j) ∨ ((∀ j, j < L.length → ¬ ((bd L j).1 ≤ y ∧ y < (bd L j).2.1)) ∧ rowL L y = []) := by
  by_cases e : ∃ j, j < L.length ∧ (bd L j).1 ≤ y ∧ y < (bd L j).2.1
  · obtain ⟨j, h1, h2, h3⟩ := e
    exact Or.inl ⟨j, h1, h2, h3, row_at h h1 h2 h3⟩
  · refine Or.inr ⟨fun j hj z => e ⟨j, hj, z⟩, row_no (fun j hj z => e ⟨j, hj, z⟩)⟩
theorem row_cn {L : List Bnd} (h : cbL L) (y : Int) : cnE (rowL L y) := by
  rcases row_cases h y with ⟨j, h1, h2, h3, h4⟩ | ⟨h1, h2⟩
  · rw [h4]; exact (h.1 j h1).2.1
  · rw [h2]; exact cn_nil
/-- the region ends at t or below -/
def tbL (L : List Bnd) (t : Int) : Prop := L.length = 0 ∨ (bd L (L.length - 1)).2.1 ≤ t
theorem tb_all {L : List Bnd} (h : cbL L) {t : Int} (ht : tbL L t) {j : Nat} (hj : j < L.length) : (bd L j).2.1 ≤ t := by
  rcases ht with z | z
  · omega
  · by_cases e : j = L.length - 1
    · rw [e]; exact z
    · have := cb_up h (show j < L.length - 1 by omega) (by omega)
      have := (h.1 (L.length - 1) (by omega)).1
      omega
theorem tb_row {L : List Bnd} (h : cbL L) {t : Int} (ht : tbL L t) {y : Int} (hy : t ≤ y) : rowL L y = [] :=
  row_no (fun j hj z => by have := tb_all h ht hj; omega)
theorem bd_at {L : List Bnd} {j : Nat} (h : j < L.length) : bd L j = L[j] := by
  unfold bd; rw [List.getD_eq_getElem?_getD, List.getElem?_eq_getElem h]; rfl
theorem ra_set {L : List Bnd} (h : cbL L) {lo hi : Int} {E : List Int} (ht : tbL L lo) (hE : cnE E) : cbL (radd L lo hi E) ∧ (∀ y, rowL (radd L lo hi E) y = if lo ≤ y ∧ y < hi then E else rowL L y) ∧ ∀ t, lo ≤ t → hi ≤ t → tbL (radd L lo hi E) t := by
  have hev := hE.1
  have ht2 : ∀ t, lo ≤ t → tbL L t := fun t h => by
    rcases ht with z | z
    · exact Or.inl z
    · exact Or.inr (by omega)
  unfold radd
  by_cases h1 : rE lo hi E
  · rw [if_pos h1]
    refine ⟨h, fun y => ?_, fun t h2 _ => ht2 t h2⟩
    split
    · next hy =>
      rcases h1 with z | z
      · omega
      · rw [tb_row h ht hy.1]
        have : E.length = 0 := by omega
        exact (List.length_eq_zero_iff.mp this).symm
    · rfl
  · rw [if_neg h1]
    have hlo : lo < hi := by
      apply Classical.byContradiction
      intro z; exact h1 (Or.inl (by omega))
    have hE2 : 2 ≤ E.length := by
      apply Classical.byContradiction
      intro z; exact h1 (Or.inr (by omega))
    by_cases h2 : rJ L lo E
    · rw [if_pos h2]
      obtain ⟨j1, j2, j3⟩ := h2
      have hlen := len_dr j1 ((bd L (L.length - 1)).1, hi, E)
      generalize hx : ((bd L (L.length - 1)).1, hi, E) = x at hlen ⊢
      have x1 : x.1 = (bd L (L.length - 1)).1 := by rw [← hx]
      have x2 : x.2.1 = hi := by rw [← hx]
      have x3 : x.2.2 = E := by rw [← hx]
      have hb1 : ∀ j, j + 1 < L.length → bd (L.dropLast ++ [x]) j = bd L j := fun j hj => bd_drop hj x
      have hb2 : bd (L.dropLast ++ [x]) (L.length - 1) = x := bd_set j1 x
      have hlast := (h.1 (L.length - 1) (by omega))
      have hc : cbL (L.dropLast ++ [x]) := by
        refine ⟨fun j hj => ?_, fun j hj => ?_⟩
        · rw [hlen] at hj
          by_cases e : j + 1 < L.length
          · unfold bE; rw [hb1 j e]; exact h.1 j hj
          · unfold bE; rw [show j = L.length - 1 by omega, hb2, x1, x2, x3]
            exact ⟨by omega, hE, hE2⟩
        · rw [hlen] at hj
          unfold bE
          rw [hb1 j hj]
          by_cases e : j + 1 + 1 < L.length
          · rw [hb1 (j + 1) e]; exact h.2 j hj
          · rw [show j + 1 = L.length - 1 by omega, hb2, x1, x3]
            have h3 := h.2 j hj
            rw [show j + 1 = L.length - 1 by omega] at h3
            refine ⟨h3.1, fun z => ?_⟩
            have := h3.2 z
            unfold bE at this
            rw [j3] at this
            exact this
      refine ⟨hc, fun y => ?_, fun t h3 h4 => Or.inr ?_⟩
      · rcases row_cases hc y with ⟨j, k1, k2, k3, k4⟩ | ⟨k1, k2⟩
        · rw [k4]
          rw [hlen] at k1
          by_cases e : j + 1 < L.length
          · unfold bE
            rw [hb1 j e] at k2 k3 ⊢
            have hup := cb_up h (show j < L.length - 1 by omega) (by omega)
            rw [if_neg (by omega), row_at h (by omega) k2 k3]
          · have ej : j = L.length - 1 := by omega
            subst ej
            unfold bE
            rw [hb2, x1] at k2
            rw [hb2, x2] at k3
            rw [hb2, x3]
            by_cases c : lo ≤ y
            · rw [if_pos ⟨c, k3⟩]
            · rw [if_neg (by omega), row_at h (by omega) k2 (by omega), ← j3]
        · rw [k2]
          have hno : ∀ j, j < L.length → ¬ ((bd L j).1 ≤ y ∧ y < (bd L j).2.1) := by
            intro j hj z
            by_cases e : j + 1 < L.length
            · have := k1 j (by omega); rw [hb1 j e] at this; exact this z
            · have := k1 (L.length - 1) (by omega)
              rw [hb2, x1, x2] at this
              rw [show j = L.length - 1 by omega] at z
              omega
          rw [row_no hno]
          split
          · next c =>
            have := k1 (L.length - 1) (by omega)
            rw [hb2, x1, x2] at this
            omega
          · rfl
      · rw [hlen, hb2, x2]; exact h4
    · rw [if_neg h2]
      have hlen : (L ++ [(lo, hi, E)]).length = L.length + 1 := by rw [List.length_append]; rfl
      have hb1 : ∀ j, j < L.length → bd (L ++ [(lo, hi, E)]) j = bd L j := fun j hj => bd_app hj _
      have hb2 : bd (L ++ [(lo, hi, E)]) L.length = (lo, hi, E) := bd_last _ _
      have hc : cbL (L ++ [(lo, hi, E)]) := by
        refine ⟨fun j hj => ?_, fun j hj => ?_⟩
        · unfold bE
          by_cases e : j < L.length
          · rw [hb1 j e]; exact h.1 j e
          · rw [show j = L.length by omega, hb2]; exact ⟨hlo, hE, hE2⟩
        · rw [hlen] at hj
          unfold bE
          rw [hb1 j (by omega)]
          by_cases e : j + 1 < L.length
          · rw [hb1 (j + 1) e]; exact h.2 j e
          · rw [show j + 1 = L.length by omega, hb2]
            have h3 := tb_all h ht (show j < L.length by omega)
            refine ⟨h3, fun z z2 => h2 ⟨by omega, ?_, ?_⟩⟩
            · rw [show L.length - 1 = j by omega]; exact z
            · rw [show L.length - 1 = j by omega]; exact z2
      refine ⟨hc, fun y => ?_, fun t h3 h4 => Or.inr ?_⟩
      · by_cases c : lo ≤ y ∧ y < hi
        · rw [if_pos c, row_at hc (j := L.length) (by omega) (by rw [hb2]; exact c.1) (by rw [hb2]; exact c.2)]
          unfold bE; rw [hb2]
        · rw [if_neg c]
          rcases row_cases h y with ⟨j, k1, k2, k3, k4⟩ | ⟨k1, k2⟩
          · rw [k4, row_at hc (j := j) (by omega) (by rw [hb1 j k1]; exact k2) (by rw [hb1 j k1]; exact k3)]
            unfold bE; rw [hb1 j k1]
          · rw [k2]
            refine row_no (fun j hj z => ?_)
            by_cases e : j < L.length
            · rw [hb1 j e] at z; exact k1 j e z
            · rw [show j = L.length by omega, hb2] at z; exact c z
      · rw [hlen, Nat.add_sub_cancel, hb2]; exact h4
/-- the region's cells -/
def rs (L : List Bnd) (S : Int → Int → Bool) : Prop := cbL L ∧ ∀ x y, mE (rowL L y) x = S x y
def inBox (S : Int → Int → Bool) (a b c d : Int) : Prop := ∀ x y, S x y = true → (a ≤ x ∧ x < b) ∧ c ≤ y ∧ y < d
theorem rs_band {L : List Bnd} {S : Int → Int → Bool} (h : rs L S) {j : Nat} (hj : j < L.length) {x y : Int} (h1 : (bd L j).1 ≤ y) (h2 : y < (bd L j).2.1) : mE (bE L j) x = S x y := by
  rw [← h.2 x y, row_at h.1 hj h1 h2]
theorem rs_hts {L : List Bnd} {S : Int → Int → Bool} (h : rs L S) {a b c d : Int} (hb : inBox S a b c d) {j : Nat} (hj : j < L.length) : c ≤ (bd L j).1 ∧ (bd L j).2.1 ≤ d := by
  obtain ⟨h1, h2, h3⟩ := h.1.1 j hj
  have hx := mE_left h2 (i := 0) (by omega)
  have e1 := rs_band h hj (x := eE (bE L j) (2 * 0)) (Int.le_refl _) h1
  have e2 := rs_band h hj (x := eE (bE L j) (2 * 0)) (y := (bd L j).2.1 - 1) (by omega) (by omega)
  rw [hx] at e1 e2
  have := hb _ _ e1.symm
  have := hb _ _ e2.symm
  omega
theorem rs_cols {L : List Bnd} {S : Int → Int → Bool} (h : rs L S) {a b c d : Int} (hb : inBox S a b c d) {j : Nat} (hj : j < L.length) : ∀ x, mE (bE L j) x = true → a ≤ x ∧ x < b := by
  intro x hx
  obtain ⟨h1, h2, h3⟩ := h.1.1 j hj
  have e1 := rs_band h hj (x := x) (Int.le_refl _) h1
  rw [hx] at e1
  exact (hb _ _ e1.symm).1
theorem rs_row {L : List Bnd} {S : Int → Int → Bool} (h : rs L S) {a b c d : Int} (hb : inBox S a b c d) (y : Int) : ∀ x, mE (rowL L y) x = true → a ≤ x ∧ x < b := by
  intro x hx
  rw [h.2 x y] at hx
  exact (hb _ _ hx).1
theorem rs_ends {L : List Bnd} {S : Int → Int → Bool} (h : rs L S) {a b c d : Int} (hb : inBox S a b c d) {j : Nat} (hj : j < L.length) {i : Nat} (hi : i < (bE L j).length) : a ≤ eE (bE L j) i ∧ eE (bE L j) i ≤ b :=
  cn_rg (h.1.1 j hj).2.1 (rs_cols h hb hj) hi
theorem rs_len {L : List Bnd} {S : Int → Int → Bool} (h : rs L S) {a b c d : Int} (hb : inBox S a b c d) (hcd : c ≤ d) : (L.length : Int) ≤ d - c := by
  have key : ∀ j, j < L.length → c + (j : Int) ≤ (bd L j).1 := by
    intro j
    induction j with
    | zero => intro hj; have := (rs_hts h hb hj).1; omega
    | succ j ih =>
      intro hj
      have := ih (by omega)
      have := (h.1.1 j (by omega)).1
      have := (h.1.2 j hj).1
      omega
  by_cases e : L.length = 0
  · omega
  · have h1 := key (L.length - 1) (by omega)
    have h2 := (rs_hts h hb (show L.length - 1 < L.length by omega)).2
    have h3 := (h.1.1 (L.length - 1) (by omega)).1
    omega
/-! the next height -/
theorem nhS_ge {y n x : Int} (h : y ≤ n) : y ≤ nhS y n x ∧ (nhS y n x = n ∨ nhS y n x = x) ∧ (y < x → y < nhS y n x ∧ nhS y n x ≤ x) ∧ (y < n → nhS y n x ≤ n ∧ y < nhS y n x) := by
  unfold nhS
  split <;> omega
theorem nhF_spec (L : List Bnd) (y : Int) (k : Nat) : y ≤ nhF L y k ∧ (nhF L y k = y ∨ ∃ j, j < k ∧ (nhF L y k = (bd L j).1 ∨ nhF L y k = (bd L j).2.1)) ∧ ∀ j, j < k → (y < (bd L j).1 → y < nhF L y k ∧ nhF L y k ≤ (bd L j).1) ∧ (y < (bd L j).2.1 → y < nhF L y k ∧ nhF L y k ≤ (bd L j).2.1) := by
  induction k with
  | zero => exact ⟨Int.le_refl _, Or.inl rfl, fun j hj => absurd hj (Nat.not_lt_zero _)⟩
  | succ k ih =>
    obtain ⟨h1, h2, h3⟩ := ih
    rw [nhF]
    have a1 := nhS_ge (x := (bd L k).1) h1
    obtain ⟨n1, hn1⟩ : ∃ n1, n1 = nhS y (nhF L y k) (bd L k).1 := ⟨_, rfl⟩
    rw [← hn1] at a1 ⊢
    have a2 := nhS_ge (x := (bd L k).2.1) a1.1
    obtain ⟨n2, hn2⟩ : ∃ n2, n2 = nhS y n1 (bd L k).2.1 := ⟨_, rfl⟩
    rw [← hn2] at a2 ⊢
    refine ⟨a2.1, ?_, fun j hj => ?_⟩
    · rcases a2.2.1 with e | e
      · rcases a1.2.1 with e1 | e1
        · rcases h2 with z | ⟨j, hj, z⟩
          · exact Or.inl (by omega)
          · exact Or.inr ⟨j, by omega, by omega⟩
        · exact Or.inr ⟨k, by omega, Or.inl (by omega)⟩
      · exact Or.inr ⟨k, by omega, Or.inr e⟩
    · by_cases e : j = k
      · subst e
        refine ⟨fun z => ?_, fun z => ?_⟩
        · have b1 := a1.2.2.1 z
          have b2 := a2.2.2.2 b1.1
          omega
        · exact a2.2.2.1 z
      · obtain ⟨c1, c2⟩ := h3 j (by omega)
        refine ⟨fun z => ?_, fun z => ?_⟩
        · have b0 := c1 z
          have b1 := a1.2.2.2 b0.1
          have b2 := a2.2.2.2 b1.2
          omega
        · have b0 := c2 z
          have b1 := a1.2.2.2 b0.1
          have b2 := a2.2.2.2 b1.2
          omega
theorem nhA_spec (A B : List Bnd) (y : Int) : y ≤ nhAll A B y ∧ (nhAll A B y = y ∨ (∃ j, j < A.length ∧ (nhAll A B y = (bd A j).1 ∨ nhAll A B y = (bd A j).2.1)) ∨ ∃ j, j < B.length ∧ (nhAll A B y = (bd B j).1 ∨ nhAll A B y = (bd B j).2.1)) ∧
    (∀ j, j < A.length → (y < (bd A j).1 → y < nhAll A B y ∧ nhAll A B y ≤ (bd A j).1) ∧ (y < (bd A j).2.1 → y < nhAll A B y ∧ nhAll A B y ≤ (bd A j).2.1)) ∧
    ∀ j, j < B.length → (y < (bd B j).1 → y < nhAll A B y ∧ nhAll A B y ≤ (bd B j).1) ∧ (y < (bd B j).2.1 → y < nhAll A B y ∧ nhAll A B y ≤ (bd B j).2.1) := by
  obtain ⟨a1, a2, a3⟩ := nhF_spec A y A.length
  obtain ⟨b1, b2, b3⟩ := nhF_spec B y B.length
  unfold nhAll nh2
  generalize nhF A y A.length = a at a1 a2 a3
  generalize nhF B y B.length = b at b1 b2 b3
  refine ⟨by split <;> omega, ?_, fun j hj => ?_, fun j hj => ?_⟩
  · have hm : (if a = y ∨ b = y then max a b else min a b) = a ∨ (if a = y ∨ b = y then max a b else min a b) = b := by split <;> omega
    rcases hm with e | e
    · rw [e]
      rcases a2 with z | z
      · exact Or.inl z
      · exact Or.inr (Or.inl z)
    · rw [e]
      rcases b2 with z | z
      · exact Or.inl z
      · exact Or.inr (Or.inr z)
  · have := a3 j hj
    refine ⟨fun z => ?_, fun z => ?_⟩ <;> split <;> omega
  · have := b3 j hj
    refine ⟨fun z => ?_, fun z => ?_⟩ <;> split <;> omega
theorem nh_le {A B : List Bnd} {K : Int} (hA : ∀ j, j < A.length → (bd A j).1 ≤ K ∧ (bd A j).2.1 ≤ K) (hB : ∀ j, j < B.length → (bd B j).1 ≤ K ∧ (bd B j).2.1 ≤ K) (y : Int) (h : y < nhAll A B y) : nhAll A B y ≤ K := by
  obtain ⟨h1, h2, h3, h4⟩ := nhA_spec A B y
  rcases h2 with z | ⟨j, hj, z⟩ | ⟨j, hj, z⟩
  · omega
  · have := hA j hj; omega
  · have := hB j hj; omega
/-- rows are the same up to the next height -/
theorem row_same {A : List Bnd} (h : cbL A) {y n : Int} (h3 : ∀ j, j < A.length → (y < (bd A j).1 → n ≤ (bd A j).1) ∧ (y < (bd A j).2.1 → n ≤ (bd A j).2.1)) {t : Int} (h1 : y ≤ t) (h2 : t < n) : rowL A t = rowL A y := by
  rcases row_cases h y with ⟨j, k1, k2, k3, k4⟩ | ⟨k1, k2⟩
  · rw [k4]
    exact row_at h k1 (by omega) (by have := (h3 j k1).2 k3; omega)
  · rw [k2]
    refine row_no (fun j hj z => k1 j hj ?_)
    have := h3 j hj
    refine ⟨?_, by omega⟩
    apply Classical.byContradiction
    intro c
    have := this.1 (by omega)
    omega
theorem row_over {A : List Bnd} {y : Int} (h : ∀ j, j < A.length → (bd A j).2.1 ≤ y) {t : Int} (h1 : y ≤ t) : rowL A t = [] := row_no (fun j hj z => by have := h j hj; omega)
theorem low_row {A : List Bnd} (h : cbL A) {y : Int} (hy : y < lowF A) : rowL A y = [] := by
  refine row_no (fun j hj z => ?_)
  unfold lowF at hy
  rw [if_neg (by omega)] at hy
  by_cases e : j = 0
  · subst e; omega
  · have := cb_up h (show 0 < j by omega) hj
    have := (h.1 0 (by omega)).1
    omega
/-! the combination -/
theorem rcm_inv {A B : List Bnd} (hA : cbL A) (hB : cbL B) (k : Nat) (n : Nat) : cbL (rcm k A B n).2 ∧ tbL (rcm k A B n).2 (rcm k A B n).1 ∧ ∀ y, rowL (rcm k A B n).2 y = if y < (rcm k A B n).1 then cmE k (rowL A y) (rowL B y) else [] := by
  have cm0 : cmE k [] [] = [] := rfl
  induction n with
  | zero =>
    refine ⟨cb_nil, Or.inl rfl, fun y => ?_⟩
    show rowL [] y = if y < min (lowF A) (lowF B) then _ else _
    split
    · next h => rw [low_row hA (by omega), low_row hB (by omega), cm0]; rfl
    · rfl
  | succ n ih =>
    obtain ⟨h1, h2, h3⟩ := ih
    rw [rcm]
    generalize hl : (rcm k A B n).1 = lo at h1 h2 h3 ⊢
    generalize hR : (rcm k A B n).2 = R at h1 h2 h3 ⊢
    obtain ⟨n1, n2, n3, n4⟩ := nhA_spec A B lo
    generalize nhAll A B lo = hi at n1 n2 n3 n4
    have hcm := (cm_set (row_cn hA lo) (row_cn hB lo) k).1
    obtain ⟨r1, r2, r3⟩ := ra_set h1 (hi := hi) h2 hcm
    refine ⟨r1, r3 hi n1 (Int.le_refl _), fun y => ?_⟩
    dsimp only
    rw [r2 y, h3 y]
    by_cases c : y < lo
    · rw [if_neg (by omega), if_pos c, if_pos (by omega)]
    · rw [if_neg c]
      by_cases c2 : y < hi
      · rw [if_pos ⟨by omega, c2⟩, if_pos c2]
        rw [row_same hA (y := lo) (n := hi) (fun j hj => ⟨fun z => ((n3 j hj).1 z).2, fun z => ((n3 j hj).2 z).2⟩) (by omega) c2, row_same hB (y := lo) (n := hi) (fun j hj => ⟨fun z => ((n4 j hj).1 z).2, fun z => ((n4 j hj).2 z).2⟩) (by omega) c2]
      · rw [if_neg (by omega), if_neg c2]
theorem rcm_set {A B : List Bnd} {SA SB : Int → Int → Bool} (hA : rs A SA) (hB : rs B SB) {k N : Nat} (hN : ¬ (rcm k A B N).1 < nhAll A B (rcm k A B N).1) : rs (rcm k A B N).2 (fun x y => opk k (SA x y) (SB x y)) := by
  obtain ⟨h1, h2, h3⟩ := rcm_inv hA.1 hB.1 k N
  refine ⟨h1, fun x y => ?_⟩
  rw [h3 y]
  split
  · rw [(cm_set (row_cn hA.1 y) (row_cn hB.1 y) k).2 x, hA.2, hB.2]
  · next c =>
    obtain ⟨n1, n2, n3, n4⟩ := nhA_spec A B (rcm k A B N).1
    have e1 : rowL A y = [] := row_over (y := (rcm k A B N).1) (fun j hj => Classical.byContradiction fun z => hN ((n3 j hj).2 (by omega)).1) (by omega)
    have e2 : rowL B y = [] := row_over (y := (rcm k A B N).1) (fun j hj => Classical.byContradiction fun z => hN ((n4 j hj).2 (by omega)).1) (by omega)
    show mE [] x = opk k (SA x y) (SB x y)
    rw [← hA.2, ← hB.2, e1, e2, mE_nil, opk_ff]
theorem cmb_set {A B R : List Bnd} {SA SB : Int → Int → Bool} (hA : rs A SA) (hB : rs B SB) {k : Nat} (h : cmbR k A B R) : rs R (fun x y => opk k (SA x y) (SB x y)) := by
  obtain ⟨N, h1, rfl⟩ := h
  exact rcm_set hA hB h1
/-- what a combination's contract asks -/
theorem low_ge {L : List Bnd} {S : Int → Int → Bool} (h : rs L S) {a b c d : Int} (hb : inBox S a b c d) (hc : c ≤ 0) : c ≤ lowF L := by
  unfold lowF
  split
  · exact hc
  · exact (rs_hts h hb (j := 0) (by omega)).1
theorem cmb_pre {A B : List Bnd} {SA SB : Int → Int → Bool} (hA : rs A SA) (hB : rs B SB) {a b c d : Int} (h1 : inBox SA a b c d) (h2 : inBox SB a b c d) (hab : a ≤ b) (hc : c ≤ 0) (D : Nat) (hD : d - c ≤ D) :
    d - D ≤ min (lowF A) (lowF B) ∧ (∀ y, y < nhAll A B y → nhAll A B y ≤ d) ∧ (b - a ≤ 63 → ∀ k y n, n ≤ (rowL A y).length + (rowL B y).length → (cmS k (rowL A y) (rowL B y) n).2.2.2.length ≤ 64) := by
  refine ⟨by have := low_ge hA h1 hc; have := low_ge hB h2 hc; omega, fun y => nh_le (fun j hj => ?_) (fun j hj => ?_) y, fun h k y n hn => ?_⟩
  · have := rs_hts hA h1 hj; have := (hA.1.1 j hj).1; omega
  · have := rs_hts hB h2 hj; have := (hB.1.1 j hj).1; omega
  · have := cm_len (row_cn hA.1 y) (row_cn hB.1 y) k hab (rs_row hA h1 y) (rs_row hB h2 y) hn
    omega
