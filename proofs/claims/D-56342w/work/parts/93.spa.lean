set_option maxRecDepth 100000
/-! PLAIN LAWS: the component's floods -/
def gT (g : Nat → Nat) (p : Int × Int) : Prop := gc g p.1 p.2 = true
theorem gT_nat (g : Nat → Nat) (x y : Nat) : gT g (((x : Nat) : Int), ((y : Nat) : Int)) ↔ (g y).testBit x = true := by unfold gT; rw [gc_nat]
theorem gT_in {g : Nat → Nat} (hg : gok g) {p : Int × Int} (h : gT g p) : (0 ≤ p.1 ∧ p.1 ≤ 23) ∧ 0 ≤ p.2 ∧ p.2 ≤ 23 := gc_in hg h
theorem gT_ex {g : Nat → Nat} (hg : gok g) {p : Int × Int} (h : gT g p) : ∃ x y : Nat, x < 24 ∧ y < 24 ∧ p = (((x : Nat) : Int), ((y : Nat) : Int)) ∧ (g y).testBit x = true := by
  have h1 := gT_in hg h
  have e : p = (((p.1.toNat : Nat) : Int), ((p.2.toNat : Nat) : Int)) := Prod.ext (by dsimp only; omega) (by dsimp only; omega)
  refine ⟨p.1.toNat, p.2.toNat, by omega, by omega, e, ?_⟩
  rw [← gT_nat, ← e]; exact h
theorem spv_iff (c : Bool) (own bes i : Nat) : (spv c own bes).testBit i = true ↔ own.testBit i = true ∨ (1 ≤ i ∧ own.testBit (i - 1) = true) ∨ own.testBit (i + 1) = true ∨ bes.testBit i = true ∨ (c = true ∧ ((1 ≤ i ∧ bes.testBit (i - 1) = true) ∨ bes.testBit (i + 1) = true)) := by
  have e : i + 1 = 1 + i := by omega
  unfold spv
  cases c
  · rw [if_neg Bool.false_ne_true]
    simp only [Nat.testBit_or, Nat.testBit_shiftLeft, Nat.testBit_shiftRight, Nat.zero_testBit, Bool.or_eq_true, Bool.and_eq_true, decide_eq_true_eq, e, Bool.false_eq_true, false_and, or_false, ge_iff_le]
    rw [or_assoc, or_assoc]
  · rw [if_pos rfl]
    simp only [Nat.testBit_or, Nat.testBit_shiftLeft, Nat.testBit_shiftRight, Bool.or_eq_true, Bool.and_eq_true, decide_eq_true_eq, e, true_and, ge_iff_le]
    rw [or_assoc, or_assoc, or_assoc]
theorem bes_iff (g : Nat → Nat) (y i : Nat) : (besG g y).testBit i = true ↔ (0 < y ∧ (g (y - 1)).testBit i = true) ∨ (y < 23 ∧ (g (y + 1)).testBit i = true) := by
  unfold besG
  rw [Nat.testBit_or, Bool.or_eq_true]
  refine or_congr ?_ ?_
  · by_cases c : 0 < y
    · rw [if_pos c]; exact ⟨fun h => ⟨c, h⟩, fun h => h.2⟩
    · rw [if_neg c, Nat.zero_testBit]; exact ⟨fun h => (by cases h), fun h => absurd h.1 c⟩
  · by_cases c : y < 23
    · rw [if_pos c]; exact ⟨fun h => ⟨c, h⟩, fun h => h.2⟩
    · rw [if_neg c, Nat.zero_testBit]; exact ⟨fun h => (by cases h), fun h => absurd h.1 c⟩
/-- one spread, cell by cell -/
theorem sp_step {wi P : Nat → Nat} {c : Bool} {y i : Nat} (hy : y < 24) : (spN P wi c 24 y).testBit i = true ↔ (P y).testBit i = true ∨ ((wi y).testBit i = true ∧ ((P y).testBit i = true ∨ (1 ≤ i ∧ (P y).testBit (i - 1) = true) ∨ (P y).testBit (i + 1) = true ∨ (besG P y).testBit i = true ∨ (c = true ∧ ((1 ≤ i ∧ (besG P y).testBit (i - 1) = true) ∨ (besG P y).testBit (i + 1) = true)))) := by
  rw [show spN P wi c 24 y = spC P wi c y from if_pos hy, spC, Nat.testBit_or, Bool.or_eq_true, Nat.testBit_and, Bool.and_eq_true, spv_iff]
  constructor
  · rintro (⟨a, b⟩ | a)
    · exact Or.inr ⟨b, a⟩
    · exact Or.inl a
  · rintro (a | ⟨a, b⟩)
    · exact Or.inr a
    · exact Or.inl ⟨b, a⟩
theorem tp_fix {wi P : Nat → Nat} {c : Bool} (hw : gok wi) (hP : gok P) : spN (tpL wi c P) wi c 24 = tpL wi c P := by
  have : ∃ n, n < 600 ∧ spB (tpI wi c P n) wi c 24 = false := by
    apply Classical.byContradiction
    intro z
    have h1 := tp_pop (n := 600) hw hP (fun m hm => by
      cases hb : spB (tpI wi c P m) wi c 24
      · exact absurd ⟨m, hm, hb⟩ z
      · rfl)
    have := popG_le (tpI wi c P 600)
    omega
  obtain ⟨n, hn, hb⟩ := this
  have e := tp_stay hb (600 - n)
  rw [show n + (600 - n) = 600 by omega] at e
  unfold tpL
  rw [e]
  exact sp_same hb
theorem tp_bit {g : Nat → Nat} (hg : gok g) {c : Bool} {t y : Nat} (ht : t < 24) (hy : y < 24) (hs : (g y).testBit t = true) (p : Int × Int) : gT (tpL g c (sdG t y)) p ↔ cn (gT g) c (((t : Nat) : Int), ((y : Nat) : Int)) p := by
  have hsT : gT g (((t : Nat) : Int), ((y : Nat) : Int)) := (gT_nat g t y).mpr hs
  have hok := tpL_ok hg ht hy c
  constructor
  · intro hp
    have key : ∀ n, ∀ i r : Nat, r < 24 → (tpI g c (sdG t y) n r).testBit i = true → cn (gT g) c (((t : Nat) : Int), ((y : Nat) : Int)) (((i : Nat) : Int), ((r : Nat) : Int)) := by
      intro n
      induction n with
      | zero =>
        intro i r hr h
        have h : (sdG t y r).testBit i = true := h
        unfold sdG va_up at h
        by_cases e : r = y
        · subst e
          rw [if_pos rfl, Nat.one_shiftLeft, Nat.testBit_two_pow, decide_eq_true_eq] at h
          subst h; exact cn_rf hsT
        · rw [if_neg e, Nat.zero_testBit] at h; cases h
      | succ n ih =>
        intro i r hr h
        rw [tpI, sp_step hr] at h
        rcases h with h | ⟨hw, h⟩
        · exact ih i r hr h
        · have hT := (gT_nat g i r).mpr hw
          have near : ∀ i' r' : Nat, r' < 24 → (tpI g c (sdG t y) n r').testBit i' = true → adj c (((i' : Nat) : Int), ((r' : Nat) : Int)) (((i : Nat) : Int), ((r : Nat) : Int)) → cn (gT g) c (((t : Nat) : Int), ((y : Nat) : Int)) (((i : Nat) : Int), ((r : Nat) : Int)) := fun i' r' h1 h2 h3 => cn_st (ih i' r' h1 h2) hT h3
          have hB : ∀ k, (besG (tpI g c (sdG t y) n) r).testBit k = true → ∃ r', r' < 24 ∧ (tpI g c (sdG t y) n r').testBit k = true ∧ (r' + 1 = r ∨ r' = r + 1) := by
            intro k hk
            rw [bes_iff] at hk
            rcases hk with ⟨a, b⟩ | ⟨a, b⟩
            · exact ⟨r - 1, by omega, b, by omega⟩
            · exact ⟨r + 1, by omega, b, by omega⟩
          rcases h with z | ⟨z1, z⟩ | z | z | ⟨z0, ⟨z1, z⟩ | z⟩
          · exact near i r hr z ⟨by dsimp only; omega, by dsimp only; omega, Or.inr (Or.inl rfl)⟩
          · exact near (i - 1) r hr z ⟨by dsimp only; omega, by dsimp only; omega, Or.inr (Or.inr rfl)⟩
          · exact near (i + 1) r hr z ⟨by dsimp only; omega, by dsimp only; omega, Or.inr (Or.inr rfl)⟩
          · obtain ⟨r', b1, b2, b3⟩ := hB _ z; exact near i r' b1 b2 ⟨by dsimp only; omega, by dsimp only; omega, Or.inr (Or.inl rfl)⟩
          · obtain ⟨r', b1, b2, b3⟩ := hB _ z; exact near (i - 1) r' b1 b2 ⟨by dsimp only; omega, by dsimp only; omega, Or.inl z0⟩
          · obtain ⟨r', b1, b2, b3⟩ := hB _ z; exact near (i + 1) r' b1 b2 ⟨by dsimp only; omega, by dsimp only; omega, Or.inl z0⟩
    obtain ⟨x9, y9, h1, h2, h3, h4⟩ := gT_ex hok hp
    rw [h3]; exact key 600 x9 y9 h2 h4
  · intro hp
    refine hp.2 (fun q => gT (tpL g c (sdG t y)) q) ((gT_nat _ t y).mpr (tpL_sup g (sdG t y) c y t (sd_bit t y))) (fun a b qa ta tb hab => ?_)
    obtain ⟨xa, ya, a1, a2, a3, a4⟩ := gT_ex hok qa
    obtain ⟨xb, yb, b1, b2, b3, b4⟩ := gT_ex hg tb
    subst a3; subst b3
    obtain ⟨j1, j2, j3⟩ := hab
    dsimp only at j1 j2 j3
    rw [gT_nat, ← tp_fix (c := c) hg (sd_ok ht hy), sp_step b2]
    refine Or.inr ⟨b4, ?_⟩
    by_cases cy : ya = yb
    · subst cy
      by_cases cx : xa = xb
      · subst cx; exact Or.inl a4
      · by_cases cx2 : xa + 1 = xb
        · exact Or.inr (Or.inl ⟨by omega, by rw [show xb - 1 = xa by omega]; exact a4⟩)
        · exact Or.inr (Or.inr (Or.inl (by rw [show xb + 1 = xa by omega]; exact a4)))
    · have hbes : (besG (tpL g c (sdG t y)) yb).testBit xa = true := by
        rw [bes_iff]
        by_cases cy2 : ya + 1 = yb
        · exact Or.inl ⟨by omega, by rw [show yb - 1 = ya by omega]; exact a4⟩
        · exact Or.inr ⟨by omega, by rw [show yb + 1 = ya by omega]; exact a4⟩
      by_cases cx : xa = xb
      · subst cx; exact Or.inr (Or.inr (Or.inr (Or.inl hbes)))
      · have hc : c = true := j3.elim id (fun h => h.elim (fun h => by omega) (fun h => by omega))
        refine Or.inr (Or.inr (Or.inr (Or.inr ⟨hc, ?_⟩)))
        by_cases cx2 : xa + 1 = xb
        · exact Or.inl ⟨by omega, by rw [show xb - 1 = xa by omega]; exact hbes⟩
        · exact Or.inr (by rw [show xb + 1 = xa by omega]; exact hbes)
theorem rm_bit {g P : Nat → Nat} (hg : gok g) (p : Int × Int) : gT (rmG g P 24) p ↔ gT g p ∧ ¬ gT P p := by
  by_cases hb : (0 ≤ p.1 ∧ p.1 ≤ 23) ∧ 0 ≤ p.2 ∧ p.2 ≤ 23
  · have e : p = (((p.1.toNat : Nat) : Int), ((p.2.toNat : Nat) : Int)) := Prod.ext (by dsimp only; omega) (by dsimp only; omega)
    rw [e, gT_nat, gT_nat, gT_nat, show rmG g P 24 p.2.toNat = pb_dif (g p.2.toNat) (P p.2.toNat) from if_pos (by omega), pb_dif_bit, Bool.and_eq_true]
    refine and_congr Iff.rfl ?_
    cases (P p.2.toNat).testBit p.1.toNat <;> simp
  · constructor
    · intro h; exact absurd (gT_in (gok_rm hg (Nat.le_refl 24)) h) hb
    · intro h; exact absurd (gT_in hg h.1) hb
/-- the next part: from the first cell on -/
theorem cp_ex {g : Nat → Nat} (hg : gok g) {y0 : Nat} (hne : g y0 ≠ 0) : ∃ t y, t < 24 ∧ y < 24 ∧ fyG g = y ∧ (g y).testBit t = true ∧ ∀ c, cpG g c = tpL g c (sdG t y) := by
  have hy0 : y0 < 24 := Classical.byContradiction fun z => hne (hg.2 y0 (by omega))
  have : ∃ y, y < 24 ∧ (∀ i, i < y → g i = 0) ∧ g y ≠ 0 := by
    have key : ∀ n, (∀ i, i < n → g i = 0) ∨ ∃ y, y < n ∧ (∀ i, i < y → g i = 0) ∧ g y ≠ 0 := by
      intro n
      induction n with
      | zero => exact Or.inl (fun i h => absurd h (Nat.not_lt_zero _))
      | succ n ih =>
        rcases ih with h | ⟨y, a, b⟩
        · by_cases e : g n = 0
          · refine Or.inl (fun i hi => ?_)
            by_cases e2 : i = n
            · rw [e2]; exact e
            · exact h i (by omega)
          · exact Or.inr ⟨n, by omega, h, e⟩
        · exact Or.inr ⟨y, by omega, b⟩
    rcases key 24 with h | h
    · exact absurd (h y0 hy0) hne
    · exact h
  obtain ⟨y, hy, hz, hn⟩ := this
  obtain ⟨h1, h2, -⟩ := tzN_bit (v := g y) (by omega) (hg.1 y)
  exact ⟨tzN (g y), y, h1, hy, fyG_eq hy hz hn, h2, fun c => cp_eq hy hz hn⟩
theorem ct_ok {g : Nat → Nat} (hg : gok g) (c : Bool) (n : Nat) : gok (ctG g c n) := by
  induction n with
  | zero => exact hg
  | succ n ih =>
    rw [ctG]; split
    · exact gok_rm ih (Nat.le_refl 24)
    · exact ih
theorem ct_dec {g : Nat → Nat} (hg : gok g) (c : Bool) (n : Nat) : (∀ y, ctG g c n y = 0) ∨ popG (ctG g c (n + 1)) < popG (ctG g c n) := by
  by_cases h : ∀ y, ctG g c n y = 0
  · exact Or.inl h
  · right
    have : ∃ y, ctG g c n y ≠ 0 := Classical.byContradiction fun z => h (fun y => Classical.byContradiction fun z2 => z ⟨y, z2⟩)
    obtain ⟨y0, hy0⟩ := this
    have hok := ct_ok hg c n
    obtain ⟨t, y, h1, h2, h3, h4, h5⟩ := cp_ex hok hy0
    rw [ctG, if_pos (by omega), h5]
    have h6 := tpL_pos hok h1 h2 c
    have h7 := popG_rm (tpL_sub (sd_sub h4) : gsub (tpL (ctG g c n) c (sdG t y)) (ctG g c n))
    omega
theorem ct_end {g : Nat → Nat} (hg : gok g) (c : Bool) : ∀ y, ctG g c 600 y = 0 := by
  have key : ∀ n, (∀ y, ctG g c n y = 0) ∨ popG (ctG g c n) + n ≤ 576 := by
    intro n
    induction n with
    | zero => exact Or.inr (by rw [Nat.add_zero, show ctG g c 0 = g from rfl]; exact popG_le g)
    | succ n ih =>
      rcases ih with h | h
      · left
        rw [(ct_stay (fun i _ => h i) 1).1]; exact h
      · rcases ct_dec hg c n with h2 | h2
        · left
          rw [(ct_stay (fun i _ => h2 i) 1).1]; exact h2
        · right; omega
  rcases key 600 with h | h
  · exact h
  · omega
/-- one part taken away -/
theorem ct_take {g : Nat → Nat} (hg : gok g) (c : Bool) (n : Nat) : (∀ y, ctG g c n y = 0) ∨ ∃ s, gT (ctG g c n) s ∧ fyG (ctG g c n) < 24 ∧ (∀ p, gT (cpG (ctG g c n) c) p ↔ cn (gT (ctG g c n)) c s p) ∧ gok (cpG (ctG g c n) c) ∧ ∀ p, gT (ctG g c (n + 1)) p ↔ gT (ctG g c n) p ∧ ¬ cn (gT (ctG g c n)) c s p := by
  by_cases h : ∀ y, ctG g c n y = 0
  · exact Or.inl h
  · right
    have : ∃ y, ctG g c n y ≠ 0 := Classical.byContradiction fun z => h (fun y => Classical.byContradiction fun z2 => z ⟨y, z2⟩)
    obtain ⟨y0, hy0⟩ := this
    have hok := ct_ok hg c n
    obtain ⟨t, y, h1, h2, h3, h4, h5⟩ := cp_ex hok hy0
    refine ⟨(((t : Nat) : Int), ((y : Nat) : Int)), (gT_nat _ t y).mpr h4, by omega, fun p => ?_, ?_, fun p => ?_⟩
    · rw [h5]; exact tp_bit hok h1 h2 h4 p
    · rw [h5]; exact tpL_ok hok h1 h2 c
    · rw [ctG, if_pos (by omega), h5, rm_bit hok, tp_bit hok h1 h2 h4 p]
theorem gT_none {g : Nat → Nat} (h : ∀ y, g y = 0) (p : Int × Int) : ¬ gT g p := by
  unfold gT; rw [gc_zero.mp h]; exact Bool.false_ne_true
/-- parts of a sheet, counted by cells -/
theorem ct_NC {g : Nat → Nat} (hg : gok g) : NC (gT g) false (ctP g false 600) := by
  have key : ∀ n k, NC (gT (ctG g false n)) false k → NC (gT g) false (ctP g false n + k) := by
    intro n
    induction n with
    | zero => intro k h; rw [show ctP g false 0 + k = k from Nat.zero_add k]; exact h
    | succ n ih =>
      intro k h
      rcases ct_take hg false n with hz | ⟨s, s1, s2, s3, s4, s5⟩
      · rw [(ct_stay (fun i _ => hz i) 1).2]
        rw [(ct_stay (fun i _ => hz i) 1).1] at h
        exact ih k h
      · rw [ctP, if_pos s2, Bool.false_and, if_neg Bool.false_ne_true, Nat.add_assoc, Nat.add_comm 1 k]
        exact ih (k + 1) (NC_step s1 s5 h)
  have := key 600 0 (NC_0 (gT_none (ct_end hg false)))
  rwa [Nat.add_zero] at this
/-! what lies outside: inner pieces, which do not reach the rim -/
def rim (p : Int × Int) : Prop := p.1 = 0 ∨ p.1 = 23 ∨ p.2 = 0 ∨ p.2 = 23
def inn (T : Int × Int → Prop) (p : Int × Int) : Prop := T p ∧ ∀ q, cn T true p q → ¬ rim q
theorem rimG_iff {g : Nat → Nat} (hg : gok g) : rimG g 24 = true ↔ ∃ p, gT g p ∧ rim p := by
  have key : ∀ k, rimG g k = true ↔ (g 0 ≠ 0 ∨ g 23 ≠ 0) ∨ ∃ r, r < k ∧ ((g r).testBit 0 = true ∨ (g r).testBit 23 = true) := by
    intro k
    induction k with
    | zero =>
      rw [rimG, Bool.or_eq_true, decide_eq_true_eq, decide_eq_true_eq]
      exact ⟨Or.inl, fun h => h.elim id (fun ⟨r, hr, _⟩ => absurd hr (Nat.not_lt_zero _))⟩
    | succ k ih =>
      have e1 : g k &&& 1 ≠ 0 ↔ (g k).testBit 0 = true := by
        rw [Nat.and_one_is_mod, Nat.testBit_zero, decide_eq_true_eq]; omega
      have e2 : g k >>> 23 ≠ 0 ↔ (g k).testBit 23 = true := by
        have hk := hg.1 k
        rw [show (g k).testBit 23 = (g k >>> 23).testBit 0 by rw [Nat.testBit_shiftRight], Nat.testBit_zero, decide_eq_true_eq]
        have : g k >>> 23 < 2 := by rw [Nat.shiftRight_eq_div_pow]; omega
        omega
      rw [rimG, Bool.or_eq_true, Bool.or_eq_true, decide_eq_true_eq, decide_eq_true_eq, ih, e1, e2]
      constructor
      · rintro ((h | ⟨r, a, b⟩) | h)
        · exact Or.inl h
        · exact Or.inr ⟨r, by omega, b⟩
        · exact Or.inr ⟨k, by omega, h⟩
      · rintro (h | ⟨r, a, b⟩)
        · exact Or.inl (Or.inl h)
        · by_cases e : r = k
          · subst e; exact Or.inr b
          · exact Or.inl (Or.inr ⟨r, by omega, b⟩)
  rw [key]
  constructor
  · rintro ((h | h) | ⟨r, a, b | b⟩)
    · obtain ⟨i, hi⟩ := bit_of_ne h
      exact ⟨(((i : Nat) : Int), ((0 : Nat) : Int)), (gT_nat g i 0).mpr hi, Or.inr (Or.inr (Or.inl rfl))⟩
    · obtain ⟨i, hi⟩ := bit_of_ne h
      exact ⟨(((i : Nat) : Int), ((23 : Nat) : Int)), (gT_nat g i 23).mpr hi, Or.inr (Or.inr (Or.inr rfl))⟩
    · exact ⟨(((0 : Nat) : Int), ((r : Nat) : Int)), (gT_nat g 0 r).mpr b, Or.inl rfl⟩
    · exact ⟨(((23 : Nat) : Int), ((r : Nat) : Int)), (gT_nat g 23 r).mpr b, Or.inr (Or.inl rfl)⟩
  · rintro ⟨p, hp, hr⟩
    obtain ⟨x, y, h1, h2, h3, h4⟩ := gT_ex hg hp
    subst h3
    have hne : g y ≠ 0 := fun z => by rw [z, Nat.zero_testBit] at h4; cases h4
    rcases hr with z | z | z | z
    · dsimp only at z
      exact Or.inr ⟨y, h2, Or.inl (by rw [show (0 : Nat) = x by omega]; exact h4)⟩
    · dsimp only at z
      exact Or.inr ⟨y, h2, Or.inr (by rw [show (23 : Nat) = x by omega]; exact h4)⟩
    · dsimp only at z
      have e9 : y = 0 := by omega
      subst e9
      exact Or.inl (Or.inl hne)
    · dsimp only at z
      exact Or.inl (Or.inr (by rw [show (23 : Nat) = y by omega]; exact hne))
/-- the inner pieces of what is left -/
theorem inn_rest {T T' : Int × Int → Prop} {s : Int × Int} (hT : ∀ x, T' x ↔ T x ∧ ¬ cn T true s x) (p : Int × Int) : inn T' p ↔ inn T p ∧ ¬ cn T true s p := by
  constructor
  · rintro ⟨h1, h2⟩
    have h3 := (hT p).mp h1
    exact ⟨⟨h3.1, fun q hq => h2 q ((cn_rest hT h1).mpr hq)⟩, h3.2⟩
  · rintro ⟨⟨h1, h2⟩, h3⟩
    have h4 := (hT p).mpr ⟨h1, h3⟩
    exact ⟨h4, fun q hq => h2 q ((cn_rest hT h4).mp hq)⟩
theorem inn_cn {T : Int × Int → Prop} {p q : Int × Int} (h : inn T p) (hq : cn T true p q) : inn T q := ⟨(cn_in hq).2, fun r hr => h.2 r (cn_tr hq hr)⟩
theorem cn_inn {T : Int × Int → Prop} {p q : Int × Int} (hp : inn T p) : cn (inn T) true p q ↔ cn T true p q := by
  constructor
  · intro h; exact cn_mono h (fun x hx => hx.1)
  · intro h
    exact (h.2 (fun x => cn (inn T) true p x) (cn_rf hp) (fun a b qa ta tb hab => cn_st qa (inn_cn (cn_in qa).2 (cn_st (cn_rf ta) tb hab)) hab))
theorem cti_NC {g : Nat → Nat} (hg : gok g) : NC (inn (gT g)) true (ctP g true 600) := by
  have key : ∀ n k, NC (inn (gT (ctG g true n))) true k → NC (inn (gT g)) true (ctP g true n + k) := by
    intro n
    induction n with
    | zero => intro k h; rw [show ctP g true 0 + k = k from Nat.zero_add k]; exact h
    | succ n ih =>
      intro k h
      rcases ct_take hg true n with hz | ⟨s, s1, s2, s3, s4, s5⟩
      · rw [(ct_stay (fun i _ => hz i) 1).2]
        rw [(ct_stay (fun i _ => hz i) 1).1] at h
        exact ih k h
      · rw [ctP, if_pos s2, Bool.true_and]
        have hr := rimG_iff s4
        by_cases c : rimG (cpG (ctG g true n) true) 24 = true
        · rw [if_pos c, Nat.add_zero]
          refine ih k (NC_eqv (fun x => ?_) h)
          rw [inn_rest s5 x]
          refine ⟨fun z => z.1, fun z => ⟨z, fun z2 => ?_⟩⟩
          obtain ⟨q, q1, q2⟩ := hr.mp c
          exact z.2 q (cn_tr (cn_sy z2) ((s3 q).mp q1)) q2
        · rw [if_neg c, Nat.add_assoc, Nat.add_comm 1 k]
          have hs : inn (gT (ctG g true n)) s := ⟨s1, fun q hq hq2 => c (hr.mpr ⟨q, (s3 q).mpr hq, hq2⟩)⟩
          refine ih (k + 1) (NC_step hs (fun x => ?_) h)
          rw [inn_rest s5 x, cn_inn hs]
  have := key 600 0 (NC_0 (fun x hx => gT_none (ct_end hg true) x hx.1))
  rwa [Nat.add_zero] at this
theorem or_bit {A P : Nat → Nat} (hA : gok A) (hP : gok P) (p : Int × Int) : gT (fun y => if y < 24 then A y ||| P y else 0) p ↔ gT A p ∨ gT P p := by
  have hok : gok (fun y => if y < 24 then A y ||| P y else 0) := by
    refine ⟨fun i => ?_, fun i hi => if_neg (by omega)⟩
    dsimp only; split
    · exact or_lt24 (hA.1 i) (hP.1 i)
    · decide
  by_cases hb : (0 ≤ p.1 ∧ p.1 ≤ 23) ∧ 0 ≤ p.2 ∧ p.2 ≤ 23
  · have e : p = (((p.1.toNat : Nat) : Int), ((p.2.toNat : Nat) : Int)) := Prod.ext (by dsimp only; omega) (by dsimp only; omega)
    rw [e, gT_nat, gT_nat, gT_nat]
    try dsimp only
    rw [if_pos (by omega), Nat.testBit_or, Bool.or_eq_true]
  · constructor
    · intro h; exact absurd (gT_in hok h) hb
    · rintro (h | h)
      · exact absurd (gT_in hA h) hb
      · exact absurd (gT_in hP h) hb
/-- the inner pieces, kept -/
theorem in_law {g : Nat → Nat} (hg : gok g) : gok (inP g 600) ∧ ∀ p, gT (inP g 600) p ↔ inn (gT g) p := by
  have key : ∀ n, gok (inP g n) ∧ ∀ p, inn (gT g) p ↔ gT (inP g n) p ∨ inn (gT (ctG g true n)) p := by
    intro n
    induction n with
    | zero => exact ⟨gok_0, fun p => ⟨Or.inr, fun h => h.elim (fun h => absurd h (gT_none (fun _ => rfl) p)) id⟩⟩
    | succ n ih =>
      obtain ⟨i1, i2⟩ := ih
      rcases ct_take hg true n with hz | ⟨s, s1, s2, s3, s4, s5⟩
      · rw [(in_stay (fun i _ => hz i) 1), (ct_stay (fun i _ => hz i) 1).1]; exact ⟨i1, i2⟩
      · have hr := rimG_iff s4
        rw [inP]
        by_cases c : rimG (cpG (ctG g true n) true) 24 = true
        · rw [if_neg (fun z => by rw [c] at z; cases z.2)]
          refine ⟨i1, fun p => ?_⟩
          rw [i2 p, inn_rest s5 p]
          refine or_congr Iff.rfl ⟨fun z => ⟨z, fun z2 => ?_⟩, fun z => z.1⟩
          obtain ⟨q, q1, q2⟩ := hr.mp c
          exact z.2 q (cn_tr (cn_sy z2) ((s3 q).mp q1)) q2
        · rw [if_pos ⟨s2, by simpa using c⟩]
          refine ⟨?_, fun p => ?_⟩
          · refine ⟨fun i => ?_, fun i hi => if_neg (by omega)⟩
            dsimp only; split
            · exact or_lt24 (i1.1 i) (s4.1 i)
            · decide
          · rw [or_bit i1 s4, s3 p, i2 p, inn_rest s5 p, or_assoc]
            refine or_congr Iff.rfl ?_
            constructor
            · intro z
              by_cases c9 : cn (gT (ctG g true n)) true s p
              · exact Or.inl c9
              · exact Or.inr ⟨z, c9⟩
            · rintro (z | z)
              · exact ⟨(cn_in z).2, fun q hq hq2 => c (hr.mpr ⟨q, (s3 q).mpr (cn_tr z hq), hq2⟩)⟩
              · exact z.1
  obtain ⟨k1, k2⟩ := key 600
  exact ⟨k1, fun p => ⟨fun h => (k2 p).mpr (Or.inl h), fun h => ((k2 p).mp h).elim id (fun z => absurd z.1 (gT_none (ct_end hg true) p))⟩⟩
/-! both views of what lies outside -/
theorem ot_bit {g : Nat → Nat} (p : Int × Int) : gT (otG g 24) p ↔ ((0 ≤ p.1 ∧ p.1 ≤ 23) ∧ 0 ≤ p.2 ∧ p.2 ≤ 23) ∧ ¬ gT g p := by
  by_cases hb : (0 ≤ p.1 ∧ p.1 ≤ 23) ∧ 0 ≤ p.2 ∧ p.2 ≤ 23
  · have e : p = (((p.1.toNat : Nat) : Int), ((p.2.toNat : Nat) : Int)) := Prod.ext (by dsimp only; omega) (by dsimp only; omega)
    rw [e, gT_nat, gT_nat, show otG g 24 p.2.toNat = pb_dif 16777215 (g p.2.toNat) from if_pos (by omega), pb_dif_bit, show (16777215 : Nat) = 2 ^ 24 - 1 by rfl, Nat.testBit_two_pow_sub_one, decide_eq_true (by omega : p.1.toNat < 24), Bool.true_and]
    dsimp only
    cases (g p.2.toNat).testBit p.1.toNat <;> simp <;> omega
  · exact ⟨fun h => absurd (gT_in (gok_ot (Nat.le_refl 24)) h) hb, fun h => absurd h.1 hb⟩
theorem gins_bit {g : Nat → Nat} (hg : gok g) (p : Int × Int) : M26 (gins g) p ↔ gT g p := by
  constructor
  · rintro ⟨h1, h2, h3, h4⟩
    unfold gins at h4
    rw [Nat.testBit_shiftLeft, Bool.and_eq_true, decide_eq_true_eq] at h4
    unfold gT gc
    rw [decide_eq_true (by omega), Bool.true_and, show p.1.toNat = (p.1 + 1).toNat - 1 by omega, show p.2 = (((p.2 + 1).toNat : Nat) : Int) - 1 by omega]
    exact h4.2
  · intro h
    have hb := gT_in hg h
    refine ⟨by omega, by omega, by omega, ?_⟩
    unfold gins
    rw [Nat.testBit_shiftLeft, Bool.and_eq_true, decide_eq_true_eq]
    refine ⟨by omega, ?_⟩
    unfold gT gc at h
    rw [Bool.and_eq_true] at h
    rw [show (p.1 + 1).toNat - 1 = p.1.toNat by omega, show (((p.2 + 1).toNat : Nat) : Int) - 1 = p.2 by omega]
    exact h.2
theorem gout_bit {g : Nat → Nat} (hg : gok g) (p : Int × Int) : M26 (gout g) p ↔ ((-1 ≤ p.1 ∧ p.1 ≤ 24) ∧ -1 ≤ p.2 ∧ p.2 ≤ 24) ∧ ¬ gT g p := by
  rw [← gins_bit hg p]
  unfold M26 gout gins
  constructor
  · rintro ⟨h1, h2, h3, h4⟩
    rw [pb_dif_bit, show (67108863 : Nat) = 2 ^ 26 - 1 by rfl, Nat.testBit_two_pow_sub_one, Bool.and_eq_true, decide_eq_true_eq] at h4
    refine ⟨by omega, fun z => ?_⟩
    rw [z.2.2.2] at h4; exact absurd h4.2 (by decide)
  · rintro ⟨h1, h2⟩
    refine ⟨by omega, by omega, by omega, ?_⟩
    rw [pb_dif_bit, show (67108863 : Nat) = 2 ^ 26 - 1 by rfl, Nat.testBit_two_pow_sub_one, decide_eq_true (by omega : (p.1 + 1).toNat < 26), Bool.true_and]
    cases hb : (gr g ((((p.2 + 1).toNat : Nat) : Int) - 1) <<< 1).testBit (p.1 + 1).toNat
    · rfl
    · exact absurd ⟨by omega, by omega, by omega, hb⟩ h2
/-- a line of points hangs together -/
theorem cn_line {T : Int × Int → Prop} {c : Bool} {s : Int × Int} {a b : Int} {P : Int → Int × Int} (ha : cn T c s (P a)) (hT : ∀ x, a ≤ x → x ≤ b → T (P x)) (hP : ∀ x, adj c (P x) (P (x + 1))) : ∀ x, a ≤ x → x ≤ b → cn T c s (P x) := by
  have key : ∀ n : Nat, a + n ≤ b → cn T c s (P (a + n)) := by
    intro n
    induction n with
    | zero => intro _; rw [show a + ((0 : Nat) : Int) = a by omega]; exact ha
    | succ n ih =>
      intro hn
      have := cn_st (ih (by omega)) (hT (a + n + 1) (by omega) (by omega)) (hP (a + n))
      rw [show a + ((n + 1 : Nat) : Int) = a + n + 1 by omega]; exact this
  intro x h1 h2
  have := key (x - a).toNat (by omega)
  rwa [show a + (((x - a).toNat : Nat) : Int) = x by omega] at this
theorem out_law {g : Nat → Nat} (hg : gok g) (p : Int × Int) : inn (gT (otG g 24)) p ↔ M26 (gout g) p ∧ ¬ cn (M26 (gout g)) true (-1, -1) p := by
  have hnot : ∀ q : Int × Int, (q.1 = -1 ∨ q.1 = 24 ∨ q.2 = -1 ∨ q.2 = 24) → ¬ gT g q := fun q hq h => by have := gT_in hg h; omega
  have hU : ∀ q : Int × Int, ((-1 ≤ q.1 ∧ q.1 ≤ 24) ∧ -1 ≤ q.2 ∧ q.2 ≤ 24) → (q.1 = -1 ∨ q.1 = 24 ∨ q.2 = -1 ∨ q.2 = 24) → M26 (gout g) q := fun q h1 h2 => (gout_bit hg q).mpr ⟨h1, hnot q h2⟩
  have h0 : cn (M26 (gout g)) true (-1, -1) (-1, -1) := cn_rf (hU _ (by decide) (by decide))
  have hor : ∀ y : Int, ∀ x : Int, adj true (x, y) (x + 1, y) := fun y x => ⟨by dsimp only; omega, by dsimp only; omega, Or.inl rfl⟩
  have ver : ∀ x : Int, ∀ y : Int, adj true (x, y) (x, y + 1) := fun x y => ⟨by dsimp only; omega, by dsimp only; omega, Or.inl rfl⟩
  have b1 : ∀ x, -1 ≤ x → x ≤ 24 → cn (M26 (gout g)) true (-1, -1) (x, -1) := cn_line (P := fun x => (x, -1)) (a := -1) (b := 24) h0 (fun x h1 h2 => hU _ ⟨⟨h1, h2⟩, by dsimp only; omega⟩ (Or.inr (Or.inr (Or.inl rfl)))) (hor (-1))
  have b2 : ∀ y, -1 ≤ y → y ≤ 24 → cn (M26 (gout g)) true (-1, -1) (-1, y) := cn_line (P := fun y => (-1, y)) (a := -1) (b := 24) h0 (fun y h1 h2 => hU _ ⟨by dsimp only; omega, h1, h2⟩ (Or.inl rfl)) (ver (-1))
  have b3 : ∀ x, -1 ≤ x → x ≤ 24 → cn (M26 (gout g)) true (-1, -1) (x, 24) := cn_line (P := fun x => (x, 24)) (a := -1) (b := 24) (b2 24 (by decide) (by decide)) (fun x h1 h2 => hU _ ⟨⟨h1, h2⟩, by dsimp only; omega⟩ (Or.inr (Or.inr (Or.inr rfl)))) (hor 24)
  have b4 : ∀ y, -1 ≤ y → y ≤ 24 → cn (M26 (gout g)) true (-1, -1) (24, y) := cn_line (P := fun y => (24, y)) (a := -1) (b := 24) (b1 24 (by decide) (by decide)) (fun y h1 h2 => hU _ ⟨by dsimp only; omega, h1, h2⟩ (Or.inr (Or.inl rfl))) (ver 24)
  have ring : ∀ q : Int × Int, ((-1 ≤ q.1 ∧ q.1 ≤ 24) ∧ -1 ≤ q.2 ∧ q.2 ≤ 24) → (q.1 = -1 ∨ q.1 = 24 ∨ q.2 = -1 ∨ q.2 = 24) → cn (M26 (gout g)) true (-1, -1) q := by
    intro q h1 h2
    obtain ⟨x, y⟩ := q
    dsimp only at h1 h2
    rcases h2 with e | e | e | e
    · subst e; exact b2 y h1.2.1 h1.2.2
    · subst e; exact b4 y h1.2.1 h1.2.2
    · subst e; exact b1 x h1.1.1 h1.1.2
    · subst e; exact b3 x h1.1.1 h1.1.2
  have sub : ∀ q, gT (otG g 24) q → M26 (gout g) q := fun q h => by
    obtain ⟨h1, h2⟩ := (ot_bit q).mp h
    exact (gout_bit hg q).mpr ⟨by omega, h2⟩
  constructor
  · rintro ⟨h1, h2⟩
    refine ⟨sub p h1, fun hc => ?_⟩
    have : ¬ cn (gT (otG g 24)) true p p := by
      refine hc.2 (fun q => ¬ cn (gT (otG g 24)) true p q) (fun z => ?_) (fun a b qa ta tb hab hb => ?_)
      · have := ((ot_bit _).mp (cn_in z).2).1
        dsimp only at this; omega
      · have hbT := (cn_in hb).2
        by_cases ha : gT (otG g 24) a
        · exact qa (cn_st hb ha (adj_sym hab))
        · -- a lies on the ring, so b is at the rim
          obtain ⟨a1, a2⟩ := (gout_bit hg a).mp ta
          have a3 : ¬ ((0 ≤ a.1 ∧ a.1 ≤ 23) ∧ 0 ≤ a.2 ∧ a.2 ≤ 23) := fun z => ha ((ot_bit a).mpr ⟨z, a2⟩)
          have b9 := ((ot_bit b).mp hbT).1
          obtain ⟨j1, j2, j3⟩ := hab
          refine h2 b hb ?_
          unfold rim
          omega
    exact this (cn_rf h1)
  · rintro ⟨h1, h2⟩
    obtain ⟨h3, h4⟩ := (gout_bit hg p).mp h1
    have h5 : gT (otG g 24) p := by
      refine (ot_bit p).mpr ⟨?_, h4⟩
      apply Classical.byContradiction
      intro z
      exact h2 (ring p h3 (by omega))
    refine ⟨h5, fun q hq hr => h2 ?_⟩
    have q1 := ((ot_bit q).mp (cn_in hq).2).1
    -- next to q lies a point of the ring
    have : ∃ r : Int × Int, ((-1 ≤ r.1 ∧ r.1 ≤ 24) ∧ -1 ≤ r.2 ∧ r.2 ≤ 24) ∧ (r.1 = -1 ∨ r.1 = 24 ∨ r.2 = -1 ∨ r.2 = 24) ∧ adj true r q := by
      rcases hr with e | e | e | e
      · exact ⟨(-1, q.2), by dsimp only; omega, Or.inl rfl, ⟨by dsimp only; omega, by dsimp only; omega, Or.inl rfl⟩⟩
      · exact ⟨(24, q.2), by dsimp only; omega, Or.inr (Or.inl rfl), ⟨by dsimp only; omega, by dsimp only; omega, Or.inl rfl⟩⟩
      · exact ⟨(q.1, -1), by dsimp only; omega, Or.inr (Or.inr (Or.inl rfl)), ⟨by dsimp only; omega, by dsimp only; omega, Or.inl rfl⟩⟩
      · exact ⟨(q.1, 24), by dsimp only; omega, Or.inr (Or.inr (Or.inr rfl)), ⟨by dsimp only; omega, by dsimp only; omega, Or.inl rfl⟩⟩
    obtain ⟨r, r1, r2, r3⟩ := this
    have hqU := sub q (cn_in hq).2
    exact cn_tr (cn_st (ring r r1 r2) hqU r3) (cn_mono (cn_sy hq) sub)
theorem hole_law {g : Nat → Nat} (hg : gok g) {n : Nat} (h : PCr true n (gout g)) : n = ctP (otG g 24) true 600 + 1 := by
  have h1 := PC_NC n (gout g) (fun y _ => gout_lt g y) h
  have hU : M26 (gout g) (-1, -1) := (gout_bit hg _).mpr ⟨by decide, fun z => by have := gT_in hg z; dsimp only at this; omega⟩
  have h2 := NC_step hU (out_law hg) (cti_NC (gok_ot (g := g) (Nat.le_refl 24)))
  exact NC_u h1 h2
theorem part_law {g : Nat → Nat} (hg : gok g) {n : Nat} (h : PCr false n (gins g)) : n = ctP g false 600 ∧ NC (gT g) false n := by
  have h1 := PC_NC n (gins g) (fun y _ => gins_lt hg y) h
  have h2 := NC_eqv (gins_bit hg) h1
  exact ⟨NC_u h2 (ct_NC hg), h2⟩
