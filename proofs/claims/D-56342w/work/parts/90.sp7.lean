set_option maxRecDepth 100000
/-! PLAIN LAWS: the largest rectangle and square -/
def fitR (g : Nat → Nat) (x0 w y0 h : Nat) : Prop := ∀ x y, x0 ≤ x → x < x0 + w → y0 ≤ y → y < y0 + h → (g y).testBit x = true
def isMx (μ : Nat → Nat → Nat) (g : Nat → Nat) (v : Nat) : Prop := (∀ x0 w y0 h, fitR g x0 w y0 h → 0 < w → 0 < h → μ w h ≤ v) ∧ (v = 0 ∨ ∃ x0 w y0 h, fitR g x0 w y0 h ∧ 0 < w ∧ 0 < h ∧ v = μ w h)
theorem isMx_u {μ : Nat → Nat → Nat} {g : Nat → Nat} {v v' : Nat} (h : isMx μ g v) (h' : isMx μ g v') : v = v' := by
  have a : v ≤ v' := by
    rcases h.2 with z | ⟨x0, w, y0, k, z1, z2, z3, z4⟩
    · omega
    · rw [z4]; exact h'.1 _ _ _ _ z1 z2 z3
  have b : v' ≤ v := by
    rcases h'.2 with z | ⟨x0, w, y0, k, z1, z2, z3, z4⟩
    · omega
    · rw [z4]; exact h.1 _ _ _ _ z1 z2 z3
  omega
theorem mxf_spec (f : Nat → Nat) (n : Nat) : (∀ i, i < n → f i ≤ mxf f n) ∧ (mxf f n = 0 ∨ ∃ i, i < n ∧ mxf f n = f i) := by
  induction n with
  | zero => exact ⟨fun i hi => absurd hi (Nat.not_lt_zero _), Or.inl rfl⟩
  | succ n ih =>
    obtain ⟨h1, h2⟩ := ih
    rw [mxf]
    refine ⟨fun i hi => ?_, ?_⟩
    · by_cases e : i = n
      · subst e; omega
      · have := h1 i (by omega); omega
    · by_cases c : f n ≤ mxf f n
      · rw [show max (mxf f n) (f n) = mxf f n by omega]
        rcases h2 with z | ⟨i, a, b⟩
        · exact Or.inl z
        · exact Or.inr ⟨i, by omega, b⟩
      · exact Or.inr ⟨n, by omega, by omega⟩
theorem bF_bit (g : Nat → Nat) (low j x : Nat) : (bF g low j).testBit x = true ↔ x < 24 ∧ ∀ i, i < j → (g (low + i)).testBit x = true := by
  induction j with
  | zero =>
    rw [bF, show (16777215 : Nat) = 2 ^ 24 - 1 by rfl, Nat.testBit_two_pow_sub_one, decide_eq_true_eq]
    exact ⟨fun h => ⟨h, fun i hi => absurd hi (Nat.not_lt_zero _)⟩, fun h => h.1⟩
  | succ j ih =>
    rw [bF, Nat.testBit_and, Bool.and_eq_true, ih]
    constructor
    · rintro ⟨⟨a, b⟩, c⟩
      refine ⟨a, fun i hi => ?_⟩
      by_cases e : i = j
      · subst e; exact c
      · exact b i (by omega)
    · rintro ⟨a, b⟩
      exact ⟨⟨a, fun i hi => b i (by omega)⟩, b j (by omega)⟩
/-- the longest run of a row -/
theorem wid_spec {l : Nat} (hl : l < 16777216) : (∀ x0 w, (∀ x, x0 ≤ x → x < x0 + w → l.testBit x = true) → w ≤ widF l) ∧ ∃ x0, ∀ x, x0 ≤ x → x < x0 + widF l → l.testBit x = true := by
  have hz : wit l 24 = 0 := by
    apply Classical.byContradiction
    intro c
    obtain ⟨i, hi⟩ := bit_of_ne c
    rw [wit_bit] at hi
    have := bit_lt (k := 24) hl (hi.2 0 (by omega))
    omega
  have ex : ∀ k, wit l k = 0 → ∃ n, n ≤ k ∧ wit l n = 0 ∧ ∀ m, m < n → wit l m ≠ 0 := by
    intro k
    induction k with
    | zero => intro h; exact ⟨0, Nat.le_refl _, h, fun m hm => absurd hm (Nat.not_lt_zero _)⟩
    | succ k ih =>
      intro h
      by_cases c : wit l k = 0
      · obtain ⟨n, a, b⟩ := ih c; exact ⟨n, by omega, b⟩
      · refine ⟨k + 1, Nat.le_refl _, h, fun m hm z => c (wit_z z (by omega))⟩
  obtain ⟨n, n1, n2, n3⟩ := ex 24 hz
  have hw : widF l = n := widF_eq (by omega) n2 n3
  rw [hw]
  refine ⟨fun x0 w hx => ?_, ?_⟩
  · apply Classical.byContradiction
    intro c
    have h1 : wit l (w - 1) = 0 := wit_z n2 (by omega)
    have h2 : (wit l (w - 1)).testBit (x0 + w - 1) = true := (wit_bit _ _ _).mpr ⟨by omega, fun j hj => hx _ (by omega) (by omega)⟩
    rw [h1, Nat.zero_testBit] at h2; cases h2
  · by_cases c : n = 0
    · exact ⟨0, fun x h1 h2 => by omega⟩
    · obtain ⟨i, hi⟩ := bit_of_ne (n3 (n - 1) (by omega))
      rw [wit_bit] at hi
      refine ⟨i - (n - 1), fun x h1 h2 => ?_⟩
      have := hi.2 (i - x) (by omega)
      rwa [show i - (i - x) = x by omega] at this
def muM (μ : Nat → Nat → Nat) : Prop := (∀ a b c d, a ≤ c → b ≤ d → μ a b ≤ μ c d) ∧ ∀ h, μ 0 h = 0
theorem muR : muM (fun w h => w * h) := ⟨fun a b c d h1 h2 => Nat.mul_le_mul h1 h2, fun h => Nat.zero_mul h⟩
theorem muS : muM (fun w h => min w h) := ⟨fun a b c d h1 h2 => by (try dsimp only); omega, fun h => Nat.zero_min h⟩
theorem fit_in {g : Nat → Nat} (hg : gok g) {x0 w y0 h : Nat} (hf : fitR g x0 w y0 h) (hw : 0 < w) (hh : 0 < h) : x0 + w ≤ 24 ∧ y0 + h ≤ 24 := by
  have h1 := hf (x0 + w - 1) (y0 + h - 1) (by omega) (by omega) (by omega) (by omega)
  have h2 := bit_lt (k := 24) (hg.1 _) h1
  refine ⟨by omega, ?_⟩
  apply Classical.byContradiction
  intro c
  rw [hg.2 _ (by omega), Nat.zero_testBit] at h1; cases h1
theorem lar_gen {μ : Nat → Nat → Nat} (hμ : muM μ) {g : Nat → Nat} (hg : gok g) : isMx μ g (mxf (fun low => mxf (fun j => μ (widF (bF g low (j + 1))) (j + 1)) (24 - low)) 24) := by
  refine ⟨fun x0 w y0 h hf hw hh => ?_, ?_⟩
  · have hin := fit_in hg hf hw hh
    have h1 := (mxf_spec (fun low => mxf (fun j => μ (widF (bF g low (j + 1))) (j + 1)) (24 - low)) 24).1 y0 (by omega)
    have h2 := (mxf_spec (fun j => μ (widF (bF g y0 (j + 1))) (j + 1)) (24 - y0)).1 (h - 1) (by omega)
    try dsimp only at h1 h2
    rw [show h - 1 + 1 = h by omega] at h2
    have h3 : w ≤ widF (bF g y0 h) := (wid_spec (bF_lt g y0 h)).1 x0 w (fun x a b => (bF_bit _ _ _ _).mpr ⟨by omega, fun i hi => hf x (y0 + i) a b (by omega) (by omega)⟩)
    exact Nat.le_trans (hμ.1 _ _ _ _ h3 (Nat.le_refl h)) (Nat.le_trans h2 h1)
  · rcases (mxf_spec (fun low => mxf (fun j => μ (widF (bF g low (j + 1))) (j + 1)) (24 - low)) 24).2 with z | ⟨low, a, z⟩
    · exact Or.inl z
    · rw [z]
      try dsimp only
      rcases (mxf_spec (fun j => μ (widF (bF g low (j + 1))) (j + 1)) (24 - low)).2 with z2 | ⟨j, b, z2⟩
      · exact Or.inl z2
      · rw [z2]
        by_cases c : widF (bF g low (j + 1)) = 0
        · left; (try dsimp only); rw [c]; exact hμ.2 _
        · obtain ⟨x0, hx⟩ := (wid_spec (bF_lt g low (j + 1))).2
          refine Or.inr ⟨x0, widF (bF g low (j + 1)), low, j + 1, fun x y h1 h2 h3 h4 => ?_, by omega, by omega, rfl⟩
          have := ((bF_bit _ _ _ _).mp (hx x h1 h2)).2 (y - low) (by omega)
          rwa [show low + (y - low) = y by omega] at this
theorem larR_mx {g : Nat → Nat} (hg : gok g) : isMx (fun w h => w * h) g (larR g) := lar_gen muR hg
theorem larS_mx {g : Nat → Nat} (hg : gok g) : isMx (fun w h => min w h) g (larS g) := lar_gen muS hg
/-! by ranges of bands -/
theorem cn_one {E : List Int} (h : cnE E) {a b : Int} (hab : a < b) (hm : ∀ x, a ≤ x → x < b → mE E x = true) : ∃ i, 2 * i + 1 < E.length ∧ eE E (2 * i) ≤ a ∧ b ≤ eE E (2 * i + 1) := by
  obtain ⟨i, i1, i2, i3⟩ := mE_iff.mp (hm a (Int.le_refl _) hab)
  refine ⟨i, i1, i2, ?_⟩
  apply Classical.byContradiction
  intro c
  have := hm (eE E (2 * i + 1)) (by omega) (by omega)
  rw [(mE_off h i1).2] at this; cases this
theorem me_spec (E : List Int) (h : Int) (s : Int × Int) (k : Nat) : (s.1 ≤ (meS E h s k).1 ∧ s.2 ≤ (meS E h s k).2) ∧ (∀ i, i < k → h * (eE E (2 * i + 1) - eE E (2 * i)) ≤ (meS E h s k).1 ∧ min h (eE E (2 * i + 1) - eE E (2 * i)) ≤ (meS E h s k).2) ∧
    ((meS E h s k).1 = s.1 ∨ ∃ i, i < k ∧ (meS E h s k).1 = h * (eE E (2 * i + 1) - eE E (2 * i))) ∧ ((meS E h s k).2 = s.2 ∨ ∃ i, i < k ∧ (meS E h s k).2 = min h (eE E (2 * i + 1) - eE E (2 * i))) := by
  induction k with
  | zero => exact ⟨⟨Int.le_refl _, Int.le_refl _⟩, fun i hi => absurd hi (Nat.not_lt_zero _), Or.inl rfl, Or.inl rfl⟩
  | succ k ih =>
    obtain ⟨⟨a1, a2⟩, b, c, d⟩ := ih
    rw [meS]
    try dsimp only
    generalize meS E h s k = t at a1 a2 b c d
    generalize hA : h * (eE E (2 * k + 1) - eE E (2 * k)) = A
    generalize hB : min h (eE E (2 * k + 1) - eE E (2 * k)) = B
    refine ⟨⟨by omega, by omega⟩, fun i hi => ?_, ?_, ?_⟩
    · by_cases e : i = k
      · subst e; rw [hA, hB]; omega
      · have := b i (by omega); omega
    · by_cases e : A ≤ t.1
      · rw [show max t.1 A = t.1 by omega]
        rcases c with z | ⟨i, z1, z2⟩
        · exact Or.inl z
        · exact Or.inr ⟨i, by omega, z2⟩
      · exact Or.inr ⟨k, by omega, by omega⟩
    · by_cases e : B ≤ t.2
      · rw [show max t.2 B = t.2 by omega]
        rcases d with z | ⟨i, z1, z2⟩
        · exact Or.inl z
        · exact Or.inr ⟨i, by omega, z2⟩
      · exact Or.inr ⟨k, by omega, by omega⟩
/-- what a search has found is there -/
def gdP (g : Nat → Nat) (s : Int × Int) : Prop := (s.1 = 0 ∨ ∃ x0 w y0 h, fitR g x0 w y0 h ∧ 0 < w ∧ 0 < h ∧ s.1 = ((w * h : Nat) : Int)) ∧ (s.2 = 0 ∨ ∃ x0 w y0 h, fitR g x0 w y0 h ∧ 0 < w ∧ 0 < h ∧ s.2 = ((min w h : Nat) : Int))
def seI (L : List Bnd) (f : Nat) (s0 : Int × Int) (j : Nat) (t : sSt) : Prop :=
  (s0.1 ≤ t.2.2.1.1 ∧ s0.2 ≤ t.2.2.1.2) ∧ (t.2.2.2 = true → f + j ≤ L.length ∧ (bd L f).1 + t.2.1 = (if j = 0 then (bd L f).1 else (bd L (f + j - 1)).2.1) ∧ cnE t.1 ∧ (∀ x, mE t.1 x = true ↔ mE (bE L f) x = true ∧ ∀ i, i < j → mE (bE L (f + i)) x = true) ∧
    (∀ y, (bd L f).1 ≤ y → y < (bd L f).1 + t.2.1 → ∃ i, i < j ∧ (bd L (f + i)).1 ≤ y ∧ y < (bd L (f + i)).2.1) ∧
    (0 < j → ∀ i, 2 * i + 1 < t.1.length → t.2.1 * (eE t.1 (2 * i + 1) - eE t.1 (2 * i)) ≤ t.2.2.1.1 ∧ min t.2.1 (eE t.1 (2 * i + 1) - eE t.1 (2 * i)) ≤ t.2.2.1.2))
theorem se_fit {L : List Bnd} {g : Nat → Nat} (hg : gok g) (hr : rs L (gc g)) {f j : Nat} {E : List Int} {h : Int} (hfj : f + j ≤ L.length) (hf : f < L.length) (hE : cnE E) (hm : ∀ x, mE E x = true ↔ mE (bE L f) x = true ∧ ∀ i, i < j → mE (bE L (f + i)) x = true) (hy : ∀ y, (bd L f).1 ≤ y → y < (bd L f).1 + h → ∃ i, i < j ∧ (bd L (f + i)).1 ≤ y ∧ y < (bd L (f + i)).2.1) (i : Nat) (hi : 2 * i + 1 < E.length) :
    fitR g (eE E (2 * i)).toNat (eE E (2 * i + 1) - eE E (2 * i)).toNat (bd L f).1.toNat h.toNat ∧ 0 ≤ eE E (2 * i) ∧ eE E (2 * i) < eE E (2 * i + 1) ∧ 0 ≤ (bd L f).1 := by
  have hb := gc_box hg
  have h0 := (rs_hts hr hb hf).1
  have hc : ∀ x, mE E x = true → 0 ≤ x ∧ x < 24 := fun x hx => rs_cols hr hb hf x ((hm x).mp hx).1
  have h1 := cn_rg hE hc (i := 2 * i) (by omega)
  have h2 := hE.2 (2 * i) hi
  refine ⟨fun x y x1 x2 y1 y2 => ?_, h1.1, h2, h0⟩
  obtain ⟨k, k1, k2, k3⟩ := hy ((y : Nat) : Int) (by omega) (by omega)
  have hx := ((hm ((x : Nat) : Int)).mp (mE_mid hE hi (by omega) (by omega))).2 k k1
  rw [rg_bit hr, row_at hr.1 (show f + k < L.length by omega) k2 k3]
  exact hx
theorem se_inv {L : List Bnd} {g : Nat → Nat} (hg : gok g) (hr : rs L (gc g)) {f : Nat} (hf : f < L.length) {s0 : Int × Int} (h0 : gdP g s0) : ∀ j, f + j ≤ L.length → seI L f s0 j (seK L f s0 j) ∧ gdP g (seK L f s0 j).2.2.1 := by
  intro j
  induction j with
  | zero =>
    intro _
    refine ⟨⟨⟨Int.le_refl _, Int.le_refl _⟩, fun _ => ⟨by omega, by rw [if_pos rfl]; exact Int.add_zero _, (hr.1.1 f hf).2.1, fun x => ⟨fun h => ⟨h, fun i hi => absurd hi (Nat.not_lt_zero _)⟩, fun h => h.1⟩, fun y y1 y2 => ?_, fun h => absurd h (Nat.lt_irrefl 0)⟩⟩, h0⟩
    have : y < (bd L f).1 + 0 := y2
    omega
  | succ j ih =>
    intro hj
    obtain ⟨hI, hG⟩ := ih (by omega)
    obtain ⟨⟨a1, a2⟩, hT⟩ := hI
    generalize ht : seK L f s0 j = t at a1 a2 hT hG
    obtain ⟨E, h, s, b⟩ := t
    dsimp only at a1 a2 hT hG
    by_cases c : b = true ∧ (bd L (f + j)).1 = (bd L f).1 + h
    · obtain ⟨c1, c2⟩ := c
      subst c1
      obtain ⟨t1, t2, t3, t4, t5, t6⟩ := hT rfl
      have hs := seK_go ht c2
      rw [hs]
      have hbj := hr.1.1 (f + j) (by omega)
      obtain ⟨m1, m2⟩ := cm_set t3 hbj.2.1 1
      have m2' : ∀ x, mE (cmE 1 E (bE L (f + j))) x = (mE E x && mE (bE L (f + j)) x) := fun x => m2 x
      generalize hE' : cmE 1 E (bE L (f + j)) = E' at m1 m2'
      obtain ⟨h', hh'⟩ : ∃ h', h' = h + ((bd L (f + j)).2.1 - (bd L (f + j)).1) := ⟨_, rfl⟩
      rw [← hh']
      obtain ⟨⟨s1, s2⟩, s3, s4, s5⟩ := me_spec E' h' s (E'.length / 2)
      have u4 : ∀ x, mE E' x = true ↔ mE (bE L f) x = true ∧ ∀ i, i < j + 1 → mE (bE L (f + i)) x = true := by
        intro x
        rw [m2', Bool.and_eq_true, t4]
        constructor
        · rintro ⟨⟨p1, p2⟩, p3⟩
          refine ⟨p1, fun i hi => ?_⟩
          by_cases e : i = j
          · subst e; exact p3
          · exact p2 i (by omega)
        · rintro ⟨p1, p2⟩
          exact ⟨⟨p1, fun i hi => p2 i (by omega)⟩, p2 j (by omega)⟩
      have u5 : ∀ y, (bd L f).1 ≤ y → y < (bd L f).1 + h' → ∃ i, i < j + 1 ∧ (bd L (f + i)).1 ≤ y ∧ y < (bd L (f + i)).2.1 := by
        intro y y1 y2
        by_cases c3 : y < (bd L f).1 + h
        · obtain ⟨i, i1, i2⟩ := t5 y y1 c3; exact ⟨i, by omega, i2⟩
        · exact ⟨j, by omega, by omega, by omega⟩
      have hev := m1.1
      have hfit := se_fit hg hr hj hf m1 u4 u5
      have hh0 : 0 < h' := by
        have h1 : 0 ≤ h := by
          by_cases e : j = 0
          · rw [if_pos e] at t2; omega
          · rw [if_neg e] at t2
            by_cases e2 : j = 1
            · subst e2
              have := (hr.1.1 f hf).1
              rw [show f + 1 - 1 = f by omega] at t2; omega
            · have := cb_up hr.1 (show f < f + j - 1 by omega) (by omega)
              have := (hr.1.1 (f + j - 1) (by omega)).1
              have := (hr.1.1 f hf).1
              omega
        have := hbj.1; omega
      refine ⟨⟨⟨by (try dsimp only); omega, by (try dsimp only); omega⟩, fun _ => ⟨hj, ?_, m1, u4, u5, fun _ i hi => s3 i (by have hi9 : 2 * i + 1 < E'.length := hi; omega)⟩⟩, ?_, ?_⟩
      · rw [if_neg (by omega), show f + (j + 1) - 1 = f + j by omega]; (try dsimp only); omega
      · rcases s4 with z | ⟨i, z1, z2⟩
        · (try dsimp only); rw [z]; exact hG.1
        · obtain ⟨q1, q2, q3, q4⟩ := hfit i (by omega)
          refine Or.inr ⟨_, _, _, _, q1, by omega, by omega, ?_⟩
          try dsimp only
          rw [z2, Int.natCast_mul, Int.toNat_of_nonneg (by omega), Int.toNat_of_nonneg (by omega), Int.mul_comm]
      · rcases s5 with z | ⟨i, z1, z2⟩
        · (try dsimp only); rw [z]; exact hG.2
        · obtain ⟨q1, q2, q3, q4⟩ := hfit i (by omega)
          refine Or.inr ⟨_, _, _, _, q1, by omega, by omega, ?_⟩
          try dsimp only
          rw [z2]; omega
    · have hs : seK L f s0 (j + 1) = (E, h, s, false) := by
        rw [seK, ht]; exact if_neg c
      rw [hs]
      exact ⟨⟨⟨a1, a2⟩, fun z => by cases z⟩, hG⟩
theorem se_mono {L : List Bnd} {f : Nat} {s0 : Int × Int} (j d : Nat) : (seK L f s0 j).2.2.1.1 ≤ (seK L f s0 (j + d)).2.2.1.1 ∧ (seK L f s0 j).2.2.1.2 ≤ (seK L f s0 (j + d)).2.2.1.2 := by
  induction d with
  | zero => exact ⟨Int.le_refl _, Int.le_refl _⟩
  | succ d ih =>
    rw [← Nat.add_assoc, seK]
    generalize seK L f s0 (j + d) = t at ih
    try dsimp only
    split
    · have := (me_spec (cmE 1 t.1 (bE L (f + (j + d)))) (t.2.1 + ((bd L (f + (j + d))).2.1 - (bd L (f + (j + d))).1)) t.2.2.1 ((cmE 1 t.1 (bE L (f + (j + d)))).length / 2)).1
      (try dsimp only); omega
    · exact ih
/-- a rectangle that fits is met -/
theorem se_meet {L : List Bnd} {g : Nat → Nat} (hg : gok g) (hr : rs L (gc g)) {f : Nat} (hf : f < L.length) {s0 : Int × Int} (h0 : gdP g s0) {x0 w y0 : Nat} (hw : 0 < w) (hy0 : (bd L f).1 ≤ ((y0 : Nat) : Int) ∧ ((y0 : Nat) : Int) < (bd L f).2.1) : ∀ n, fitR g x0 w y0 (n + 1) → ∃ j, 0 < j ∧ f + j ≤ L.length ∧ (seK L f s0 j).2.2.2 = true ∧ ((y0 + n : Nat) : Int) < (bd L f).1 + (seK L f s0 j).2.1 ∧ ∀ x, x0 ≤ x → x < x0 + w → mE (seK L f s0 j).1 ((x : Nat) : Int) = true := by
  have rowb : ∀ i, i < L.length → ∀ y : Nat, (bd L i).1 ≤ ((y : Nat) : Int) → ((y : Nat) : Int) < (bd L i).2.1 → ∀ x, (g y).testBit x = true → mE (bE L i) ((x : Nat) : Int) = true := by
    intro i hi y y1 y2 x hx
    rw [rg_bit hr, row_at hr.1 hi y1 y2] at hx; exact hx
  intro n
  induction n with
  | zero =>
    intro hfit
    have hs : seK L f s0 1 = _ := seK_go (j := 0) (show seK L f s0 0 = (bE L f, 0, s0, true) from rfl) (show (bd L (f + 0)).1 = (bd L f).1 + 0 from (Int.add_zero _).symm)
    have hc := hr.1.1 f hf
    have m2 := (cm_set hc.2.1 hc.2.1 1).2
    refine ⟨1, by omega, by omega, ?_, ?_, fun x h1 h2 => ?_⟩
    · rw [hs]
    · rw [hs]; (try dsimp only); rw [Nat.add_zero, Nat.add_zero]; omega
    · rw [hs]
      show mE (cmE 1 (bE L f) (bE L f)) _ = true
      rw [m2]
      have := rowb f hf y0 hy0.1 hy0.2 x (hfit x y0 h1 h2 (Nat.le_refl _) (by omega))
      show (mE _ _ && mE _ _) = true
      rw [this]; rfl
  | succ n ih =>
    intro hfit
    obtain ⟨j, j0, j1, j2, j3, j4⟩ := ih (fun x y h1 h2 h3 h4 => hfit x y h1 h2 h3 (by omega))
    by_cases c : ((y0 + (n + 1) : Nat) : Int) < (bd L f).1 + (seK L f s0 j).2.1
    · exact ⟨j, j0, j1, j2, c, j4⟩
    · obtain ⟨hI, hG⟩ := se_inv hg hr hf h0 j j1
      obtain ⟨t1, t2, t3, t4, t5, t6⟩ := hI.2 j2
      rw [if_neg (by omega)] at t2
      -- the row above begins the next band
      have hx0 := hfit x0 (y0 + (n + 1)) (Nat.le_refl _) (by omega) (by omega) (by omega)
      rw [rg_bit hr] at hx0
      have hrow : ((y0 + (n + 1) : Nat) : Int) = (bd L (f + j - 1)).2.1 := by omega
      rcases row_cases hr.1 ((y0 + (n + 1) : Nat) : Int) with ⟨i, i1, i2, i3, i4⟩ | ⟨i1, i2⟩
      · have hij : f + j ≤ i := by
          apply Classical.byContradiction
          intro z
          by_cases e : i = f + j - 1
          · subst e; omega
          · have := cb_up hr.1 (show i < f + j - 1 by omega) (by omega)
            have := (hr.1.1 (f + j - 1) (by omega)).1
            omega
        have hi : i = f + j := by
          apply Classical.byContradiction
          intro z
          have h1 := cb_up hr.1 (show f + j < i by omega) i1
          have h2 := cb_up hr.1 (show f + j - 1 < f + j by omega) (by omega)
          have h3 := (hr.1.1 (f + j) (by omega)).1
          omega
        subst hi
        have h2 := cb_up hr.1 (show f + j - 1 < f + j by omega) i1
        have hcond : (bd L (f + j)).1 = (bd L f).1 + (seK L f s0 j).2.1 := by omega
        have hs := seK_go (E := (seK L f s0 j).1) (h := (seK L f s0 j).2.1) (s := (seK L f s0 j).2.2.1) (by rw [← j2]) hcond
        have m2 := (cm_set t3 (hr.1.1 (f + j) i1).2.1 1).2
        refine ⟨j + 1, by omega, by omega, ?_, ?_, fun x h1 h3 => ?_⟩
        · rw [hs]
        · rw [hs]; (try dsimp only); omega
        · rw [hs]
          show mE (cmE 1 _ _) _ = true
          rw [m2]
          have e1 := rowb (f + j) i1 (y0 + (n + 1)) i2 i3 x (hfit x _ h1 h3 (by omega) (by omega))
          show (mE _ _ && mE _ _) = true
          rw [j4 x h1 h3, e1]; rfl
      · rw [i2, mE_nil] at hx0; cases hx0
theorem rs_mono {L : List Bnd} {k m : Nat} (h : k ≤ m) : (rsF L k).1 ≤ (rsF L m).1 ∧ (rsF L k).2 ≤ (rsF L m).2 := by
  induction m with
  | zero => rw [show k = 0 by omega]; exact ⟨Int.le_refl _, Int.le_refl _⟩
  | succ m ih =>
    by_cases e : k = m + 1
    · rw [e]; exact ⟨Int.le_refl _, Int.le_refl _⟩
    · have h1 := ih (by omega)
      have h2 := se_mono (L := L) (f := m) (s0 := rsF L m) 0 (L.length - m)
      rw [Nat.zero_add] at h2
      have h3 : (seK L m (rsF L m) 0).2.2.1 = rsF L m := rfl
      rw [h3] at h2
      rw [rsF]; omega
theorem rs_good {L : List Bnd} {g : Nat → Nat} (hg : gok g) (hr : rs L (gc g)) (k : Nat) (hk : k ≤ L.length) : gdP g (rsF L k) := by
  induction k with
  | zero => exact ⟨Or.inl rfl, Or.inl rfl⟩
  | succ k ih =>
    rw [rsF]
    exact (se_inv hg hr (show k < L.length by omega) (ih (by omega)) (L.length - k) (by omega)).2
theorem rs_law {L : List Bnd} {g : Nat → Nat} (hg : gok g) (hr : rs L (gc g)) : (rsF L L.length).1 = ((larR g : Nat) : Int) ∧ (rsF L L.length).2 = ((larS g : Nat) : Int) := by
  have hgd := rs_good hg hr L.length (Nat.le_refl _)
  have h00 := rs_mono (L := L) (Nat.zero_le L.length)
  have h01 : (rsF L 0).1 = 0 ∧ (rsF L 0).2 = 0 := ⟨rfl, rfl⟩
  have key : ∀ x0 w y0 h, fitR g x0 w y0 h → 0 < w → 0 < h → ((w * h : Nat) : Int) ≤ (rsF L L.length).1 ∧ ((min w h : Nat) : Int) ≤ (rsF L L.length).2 := by
    intro x0 w y0 h hf hw hh
    have hx0 := hf x0 y0 (Nat.le_refl _) (by omega) (Nat.le_refl _) (by omega)
    rw [rg_bit hr] at hx0
    rcases row_cases hr.1 ((y0 : Nat) : Int) with ⟨f, f1, f2, f3, f4⟩ | ⟨i1, i2⟩
    · obtain ⟨j, j0, j1, j2, j3, j4⟩ := se_meet hg hr f1 (rs_good hg hr f (by omega)) hw ⟨f2, f3⟩ (h - 1) (by rw [show h - 1 + 1 = h by omega]; exact hf)
      obtain ⟨hI, hG⟩ := se_inv hg hr f1 (rs_good hg hr f (by omega)) j j1
      obtain ⟨t1, t2, t3, t4, t5, t6⟩ := hI.2 j2
      obtain ⟨i, k1, k2, k3⟩ := cn_one t3 (a := ((x0 : Nat) : Int)) (b := ((x0 + w : Nat) : Int)) (by omega) (fun x h1 h2 => by
        have := j4 x.toNat (by omega) (by omega)
        rwa [show ((x.toNat : Nat) : Int) = x by omega] at this)
      have h6 := t6 j0 i k1
      have h7 := se_mono (L := L) (f := f) (s0 := rsF L f) j (L.length - f - j)
      rw [show j + (L.length - f - j) = L.length - f by omega] at h7
      have h8 := rs_mono (L := L) (show f + 1 ≤ L.length by omega)
      rw [rsF] at h8
      have h9 : ((w : Nat) : Int) ≤ eE (seK L f (rsF L f) j).1 (2 * i + 1) - eE (seK L f (rsF L f) j).1 (2 * i) := by omega
      have h10 : ((h : Nat) : Int) ≤ (seK L f (rsF L f) j).2.1 := by omega
      have h11 : ((w * h : Nat) : Int) ≤ (seK L f (rsF L f) j).2.1 * (eE (seK L f (rsF L f) j).1 (2 * i + 1) - eE (seK L f (rsF L f) j).1 (2 * i)) := by
        rw [Int.natCast_mul, Int.mul_comm]
        exact Int.mul_le_mul h10 h9 (by omega) (by omega)
      omega
    · rw [i2, mE_nil] at hx0; cases hx0
  constructor
  · have : isMx (fun w h => w * h) g (rsF L L.length).1.toNat := by
      refine ⟨fun x0 w y0 h hf hw hh => by have := (key x0 w y0 h hf hw hh).1; (try dsimp only); omega, ?_⟩
      rcases hgd.1 with z | ⟨x0, w, y0, h, z1, z2, z3, z4⟩
      · exact Or.inl (by omega)
      · exact Or.inr ⟨x0, w, y0, h, z1, z2, z3, by (try dsimp only); omega⟩
    have := isMx_u this (larR_mx hg)
    omega
  · have : isMx (fun w h => min w h) g (rsF L L.length).2.toNat := by
      refine ⟨fun x0 w y0 h hf hw hh => by have := (key x0 w y0 h hf hw hh).2; (try dsimp only); omega, ?_⟩
      rcases hgd.2 with z | ⟨x0, w, y0, h, z1, z2, z3, z4⟩
      · exact Or.inl (by omega)
      · exact Or.inr ⟨x0, w, y0, h, z1, z2, z3, by (try dsimp only); omega⟩
    have := isMx_u this (larS_mx hg)
    omega
