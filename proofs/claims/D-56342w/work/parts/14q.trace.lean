set_option maxRecDepth 100000
/-! OUTLINES: lines (x, y, way) of the border, with the region on the left -/
def nxw (g : Nat → Nat) (x y a : Nat) : Nat := if ldr g x y ((a + 1) % 4) = true then (a + 1) % 4 else if ldr g x y a = true then a else (a + 3) % 4
def nxx (x a : Nat) : Nat := if a = 0 then x + 1 else if a = 2 then x - 1 else x
def nxy (y a : Nat) : Nat := if a = 1 then y + 1 else if a = 3 then y - 1 else y
def nx (g : Nat → Nat) (d : Nat × Nat × Nat) : Nat × Nat × Nat := (nxx d.1 d.2.2, nxy d.2.1 d.2.2, nxw g (nxx d.1 d.2.2) (nxy d.2.1 d.2.2) d.2.2)
def Dk (g : Nat → Nat) (d : Nat × Nat × Nat) : Nat → Nat × Nat × Nat
  | 0 => d
  | k + 1 => nx g (Dk g d k)
/-- around a point: what leads away, what leads there -/
def outB (ne nw sw se : Bool) : Nat → Bool
  | 0 => ne && !se
  | 1 => nw && !ne
  | 2 => sw && !nw
  | _ => se && !sw
def inB (ne nw sw se : Bool) : Nat → Bool
  | 0 => nw && !sw
  | 1 => sw && !se
  | 2 => se && !ne
  | _ => ne && !nw
def nxB (ne nw sw se : Bool) (a : Nat) : Nat := if outB ne nw sw se ((a + 1) % 4) = true then (a + 1) % 4 else if outB ne nw sw se a = true then a else (a + 3) % 4
def pvB (ne nw sw se : Bool) (b : Nat) : Nat := if inB ne nw sw se ((b + 3) % 4) = true then (b + 3) % 4 else if inB ne nw sw se b = true then b else (b + 1) % 4
theorem turnB : ∀ (ne nw sw se : Bool) (a : Fin 4), inB ne nw sw se a = true → outB ne nw sw se (nxB ne nw sw se a) = true ∧ pvB ne nw sw se (nxB ne nw sw se a) = a ∧ nxB ne nw sw se a < 4 ∧ nxB ne nw sw se a ≠ (a + 2) % 4 := by decide
theorem ldr_out (g : Nat → Nat) (x y : Int) (a : Nat) : ldr g x y a = outB (gc g x y) (gc g (x - 1) y) (gc g (x - 1) (y - 1)) (gc g x (y - 1)) a := by
  match a with
  | 0 => rfl
  | 1 => rfl
  | 2 => rfl
  | _ + 3 => rfl
def pvw (g : Nat → Nat) (x y b : Nat) : Nat := pvB (gc g x y) (gc g ((x : Int) - 1) y) (gc g ((x : Int) - 1) ((y : Int) - 1)) (gc g x ((y : Int) - 1)) b
def pvx (x a : Nat) : Nat := if a = 0 then x - 1 else if a = 2 then x + 1 else x
def pvy (y a : Nat) : Nat := if a = 1 then y - 1 else if a = 3 then y + 1 else y
def pv (g : Nat → Nat) (d : Nat × Nat × Nat) : Nat × Nat × Nat := (pvx d.1 (pvw g d.1 d.2.1 d.2.2), pvy d.2.1 (pvw g d.1 d.2.1 d.2.2), pvw g d.1 d.2.1 d.2.2)
def lok (g : Nat → Nat) (d : Nat × Nat × Nat) : Prop := d.1 ≤ 24 ∧ d.2.1 ≤ 24 ∧ d.2.2 < 4 ∧ ldr g d.1 d.2.1 d.2.2 = true
theorem gc_in {g : Nat → Nat} (h : gok g) {x y : Int} (hc : gc g x y = true) : (0 ≤ x ∧ x ≤ 23) ∧ 0 ≤ y ∧ y ≤ 23 :=
  Classical.byContradiction fun z => by rw [gc_out h z] at hc; cases hc
/-- the end of a line: what leads there -/
theorem lok_in {g : Nat → Nat} (hg : gok g) {x y a : Nat} (h : lok g (x, y, a)) : nxx x a ≤ 24 ∧ nxy y a ≤ 24 ∧ pvx (nxx x a) a = x ∧ pvy (nxy y a) a = y ∧
    inB (gc g (nxx x a : Nat) (nxy y a : Nat)) (gc g ((nxx x a : Nat) - 1) (nxy y a : Nat)) (gc g ((nxx x a : Nat) - 1) ((nxy y a : Nat) - 1)) (gc g (nxx x a : Nat) ((nxy y a : Nat) - 1)) a = true := by
  obtain ⟨h1, h2, h3, h4⟩ := h
  dsimp only at h1 h2 h3 h4
  match a, h3 with
  | 0, _ =>
    have h5 : (gc g x y && !gc g x ((y : Int) - 1)) = true := h4
    rw [Bool.and_eq_true] at h5
    have := gc_in hg h5.1
    refine ⟨by show x + 1 ≤ 24; omega, h2, by show x + 1 - 1 = x; omega, rfl, ?_⟩
    show (gc g (((x + 1 : Nat) : Int) - 1) y && !gc g (((x + 1 : Nat) : Int) - 1) ((y : Int) - 1)) = true
    rw [show (((x + 1 : Nat) : Int) - 1) = x by omega]; exact h4
  | 1, _ =>
    have h5 : (gc g ((x : Int) - 1) y && !gc g x y) = true := h4
    rw [Bool.and_eq_true] at h5
    have := gc_in hg h5.1
    refine ⟨h1, by show y + 1 ≤ 24; omega, rfl, by show y + 1 - 1 = y; omega, ?_⟩
    show (gc g ((x : Int) - 1) (((y + 1 : Nat) : Int) - 1) && !gc g x (((y + 1 : Nat) : Int) - 1)) = true
    rw [show (((y + 1 : Nat) : Int) - 1) = y by omega]; exact h4
  | 2, _ =>
    have h5 : (gc g ((x : Int) - 1) ((y : Int) - 1) && !gc g ((x : Int) - 1) y) = true := h4
    rw [Bool.and_eq_true] at h5
    have := gc_in hg h5.1
    refine ⟨by show x - 1 ≤ 24; omega, h2, by show x - 1 + 1 = x; omega, rfl, ?_⟩
    show (gc g ((x - 1 : Nat) : Int) ((y : Int) - 1) && !gc g ((x - 1 : Nat) : Int) y) = true
    rw [show ((x - 1 : Nat) : Int) = (x : Int) - 1 by omega]; exact h4
  | 3, _ =>
    have h5 : (gc g x ((y : Int) - 1) && !gc g ((x : Int) - 1) ((y : Int) - 1)) = true := h4
    rw [Bool.and_eq_true] at h5
    have := gc_in hg h5.1
    refine ⟨h1, by show y - 1 ≤ 24; omega, rfl, by show y - 1 + 1 = y; omega, ?_⟩
    show (gc g x ((y - 1 : Nat) : Int) && !gc g ((x : Int) - 1) ((y - 1 : Nat) : Int)) = true
    rw [show ((y - 1 : Nat) : Int) = (y : Int) - 1 by omega]; exact h4
theorem nxw_eq (g : Nat → Nat) (x y a : Nat) : nxw g x y a = nxB (gc g x y) (gc g ((x : Int) - 1) y) (gc g ((x : Int) - 1) ((y : Int) - 1)) (gc g x ((y : Int) - 1)) a := by
  unfold nxw nxB
  rw [ldr_out, ldr_out]
theorem lok_nx {g : Nat → Nat} (hg : gok g) {d : Nat × Nat × Nat} (h : lok g d) : lok g (nx g d) ∧ pv g (nx g d) = d ∧ (nx g d).2.2 ≠ (d.2.2 + 2) % 4 := by
  obtain ⟨x, y, a⟩ := d
  obtain ⟨b1, b2, b3, b4, b5⟩ := lok_in hg h
  have t := turnB _ _ _ _ ⟨a, h.2.2.1⟩ b5
  rw [← nxw_eq] at t
  refine ⟨⟨b1, b2, t.2.2.1, by rw [ldr_out]; exact t.1⟩, ?_, t.2.2.2⟩
  have e : pvw g (nxx x a) (nxy y a) (nxw g (nxx x a) (nxy y a) a) = a := t.2.1
  show (pvx (nxx x a) (pvw g (nxx x a) (nxy y a) (nxw g (nxx x a) (nxy y a) a)), pvy (nxy y a) (pvw g (nxx x a) (nxy y a) (nxw g (nxx x a) (nxy y a) a)), pvw g (nxx x a) (nxy y a) (nxw g (nxx x a) (nxy y a) a)) = (x, y, a)
  rw [e, b3, b4]
theorem lok_Dk {g : Nat → Nat} (hg : gok g) {d : Nat × Nat × Nat} (h : lok g d) (k : Nat) : lok g (Dk g d k) := by
  induction k with
  | zero => exact h
  | succ k ih => exact (lok_nx hg ih).1
theorem pv_Dk {g : Nat → Nat} (hg : gok g) {d : Nat × Nat × Nat} (h : lok g d) (k : Nat) : pv g (Dk g d (k + 1)) = Dk g d k := (lok_nx hg (lok_Dk hg h k)).2.1
/-- two and fewer steps don't lead back, nor do three -/
theorem Dk_123 {g : Nat → Nat} (hg : gok g) {d : Nat × Nat × Nat} (h : lok g d) {m : Nat} (hm : Dk g d m = d) (h1 : 1 ≤ m) : 4 ≤ m := by
  have par : ∀ k, ((Dk g d k).1 + (Dk g d k).2.1 + k) % 2 = (d.1 + d.2.1) % 2 := by
    intro k
    induction k with
    | zero => rfl
    | succ k ih =>
      have hl := lok_Dk hg h k
      rw [Dk]
      generalize Dk g d k = e at hl ih
      obtain ⟨x, y, a⟩ := e
      obtain ⟨b1, b2, b3, b4, b5⟩ := lok_in hg hl
      have ha := hl.2.2.1
      dsimp only at ha ih b1 b2 b3 b4
      show (nxx x a + nxy y a + (k + 1)) % 2 = _
      match a, ha with
      | 0, _ => show (x + 1 + y + (k + 1)) % 2 = _; omega
      | 1, _ => show (x + (y + 1) + (k + 1)) % 2 = _; omega
      | 2, _ => have b3 : x - 1 + 1 = x := b3; show (x - 1 + y + (k + 1)) % 2 = _; omega
      | 3, _ => have b4 : y - 1 + 1 = y := b4; show (x + (y - 1) + (k + 1)) % 2 = _; omega
  have hp := par m
  rw [hm] at hp
  by_cases h2 : m = 2
  · exfalso
    subst h2
    have hl := lok_nx hg h
    have hl2 := lok_nx hg hl.1
    change nx g (nx g d) = d at hm
    have i1 := lok_in hg h
    obtain ⟨x, y, a⟩ := d
    have i2 := lok_in (x := nxx x a) (y := nxy y a) (a := nxw g (nxx x a) (nxy y a) a) hg hl.1
    have e1 : nxx (nxx x a) (nxw g (nxx x a) (nxy y a) a) = x := congrArg (fun z : Nat × Nat × Nat => z.1) hm
    have e2 : nxy (nxy y a) (nxw g (nxx x a) (nxy y a) a) = y := congrArg (fun z : Nat × Nat × Nat => z.2.1) hm
    have hne : nxw g (nxx x a) (nxy y a) a ≠ (a + 2) % 4 := hl.2.2
    have ha : a < 4 := h.2.2.1
    have hb : nxw g (nxx x a) (nxy y a) a < 4 := hl.1.2.2.1
    have c3 := i1.2.2.1
    have c4 := i1.2.2.2.1
    generalize nxw g (nxx x a) (nxy y a) a = b at *
    clear hl hl2 hm par hp i1 i2
    match a, ha, b, hb with
    | 0, _, 0, _ => have e1 : x + 1 + 1 = x := e1; have e2 : y = y := e2; omega
    | 0, _, 1, _ => have e1 : x + 1 = x := e1; have e2 : y + 1 = y := e2; omega
    | 0, _, 2, _ => exact absurd rfl hne
    | 0, _, 3, _ => have e1 : x + 1 = x := e1; have e2 : y - 1 = y := e2; omega
    | 1, _, 0, _ => have e1 : x + 1 = x := e1; have e2 : y + 1 = y := e2; omega
    | 1, _, 1, _ => have e1 : x = x := e1; have e2 : y + 1 + 1 = y := e2; omega
    | 1, _, 2, _ => have e1 : x - 1 = x := e1; have e2 : y + 1 = y := e2; omega
    | 1, _, 3, _ => exact absurd rfl hne
    | 2, _, 0, _ => exact absurd rfl hne
    | 2, _, 1, _ => have c3 : x - 1 + 1 = x := c3; have e1 : x - 1 = x := e1; have e2 : y + 1 = y := e2; omega
    | 2, _, 2, _ => have c3 : x - 1 + 1 = x := c3; have e1 : x - 1 - 1 = x := e1; have e2 : y = y := e2; omega
    | 2, _, 3, _ => have c3 : x - 1 + 1 = x := c3; have e1 : x - 1 = x := e1; have e2 : y - 1 = y := e2; omega
    | 3, _, 0, _ => have c4 : y - 1 + 1 = y := c4; have e1 : x + 1 = x := e1; have e2 : y - 1 = y := e2; omega
    | 3, _, 1, _ => exact absurd rfl hne
    | 3, _, 2, _ => have c4 : y - 1 + 1 = y := c4; have e1 : x - 1 = x := e1; have e2 : y - 1 = y := e2; omega
    | 3, _, 3, _ => have c4 : y - 1 + 1 = y := c4; have e1 : x = x := e1; have e2 : y - 1 - 1 = y := e2; omega
  · omega
/-- what is walked -/
def bit (W : Nat → Nat) (d : Nat × Nat × Nat) : Bool := (W (25 * d.2.1 + d.1)).testBit d.2.2
def rng (d : Nat × Nat × Nat) : Prop := d.1 ≤ 24 ∧ d.2.1 ≤ 24 ∧ d.2.2 < 4
def setb (W : Nat → Nat) (d : Nat × Nat × Nat) : Nat → Nat := va_up W (25 * d.2.1 + d.1) (W (25 * d.2.1 + d.1) ||| 1 <<< d.2.2)
theorem bit_setb (W : Nat → Nat) {d e : Nat × Nat × Nat} (hd : rng d) (he : rng e) : bit (setb W d) e = true ↔ bit W e = true ∨ d = e := by
  obtain ⟨x, y, a⟩ := d
  obtain ⟨x2, y2, b⟩ := e
  obtain ⟨h1, h2, h3⟩ := hd
  obtain ⟨i1, i2, i3⟩ := he
  dsimp only at h1 h2 h3 i1 i2 i3
  unfold bit setb va_up
  dsimp only
  by_cases e : 25 * y2 + x2 = 25 * y + x
  · rw [if_pos e, Nat.testBit_or, Nat.one_shiftLeft, Nat.testBit_two_pow, Bool.or_eq_true, decide_eq_true_eq, e]
    have : x = x2 ∧ y = y2 := by omega
    obtain ⟨rfl, rfl⟩ := this
    constructor
    · rintro (h | h)
      · exact Or.inl h
      · exact Or.inr (by rw [h])
    · rintro (h | h)
      · exact Or.inl h
      · exact Or.inr (by have := congrArg (fun z : Nat × Nat × Nat => z.2.2) h; exact this)
  · rw [if_neg e]
    constructor
    · exact Or.inl
    · rintro (h | h)
      · exact h
      · exfalso; apply e
        have e1 := congrArg (fun z : Nat × Nat × Nat => z.1) h
        have e2 := congrArg (fun z : Nat × Nat × Nat => z.2.1) h
        dsimp only at e1 e2
        omega
def w16 (W : Nat → Nat) : Prop := ∀ i, i < 625 → W i < 16
theorem setb_16 {W : Nat → Nat} (h : w16 W) {d : Nat × Nat × Nat} (hd : rng d) : w16 (setb W d) := by
  intro i hi
  obtain ⟨x, y, a⟩ := d
  obtain ⟨h1, h2, h3⟩ := hd
  dsimp only at h1 h2 h3
  unfold setb va_up
  dsimp only
  split
  · refine Nat.or_lt_two_pow (n := 4) (h _ (by omega)) ?_
    rw [Nat.one_shiftLeft]; exact Nat.pow_lt_pow_right (by decide) h3
  · exact h i hi
def wkc (W : Nat → Nat) : Nat := sm (fun i => pop 4 (W i)) 625
theorem sm_upd {f h : Nat → Nat} {i n : Nat} (hi : i < n) (hh : ∀ j, j ≠ i → h j = f j) : sm h n + f i = sm f n + h i := by
  induction n with
  | zero => omega
  | succ n ih =>
    rw [sm, sm]
    by_cases e : i = n
    · subst e
      have : sm h i = sm f i := by
        have : ∀ k, k ≤ i → sm h k = sm f k := by
          intro k
          induction k with
          | zero => intro _; rfl
          | succ k ih2 => intro hk; rw [sm, sm, ih2 (by omega), hh k (by omega)]
        exact this i (Nat.le_refl i)
      omega
    · have := ih (by omega); have := hh n (fun z => e z.symm); omega
theorem pop_or4 {n a : Nat} (ha : a < 4) (h : n.testBit a = false) : pop 4 (n ||| 1 <<< a) = pop 4 n + 1 := by
  have hb : ∀ i, (n ||| 1 <<< a).testBit i = (n.testBit i || decide (a = i)) := fun i => by
    rw [Nat.testBit_or, Nat.one_shiftLeft, Nat.testBit_two_pow]
  simp only [pop, hb]
  match a, ha with
  | 0, _ => simp [h]; omega
  | 1, _ => simp [h]; omega
  | 2, _ => simp [h]; omega
  | 3, _ => simp [h]; omega
theorem wc_set {W : Nat → Nat} {d : Nat × Nat × Nat} (hd : rng d) (hb : ¬ bit W d = true) : wkc (setb W d) = wkc W + 1 := by
  obtain ⟨x, y, a⟩ := d
  obtain ⟨h1, h2, h3⟩ := hd
  dsimp only at h1 h2 h3
  have hb : (W (25 * y + x)).testBit a = false := by
    have : ¬ (W (25 * y + x)).testBit a = true := hb
    simpa using this
  have h := sm_upd (f := fun i => pop 4 (W i)) (h := fun i => pop 4 (setb W (x, y, a) i)) (i := 25 * y + x) (n := 625) (by omega) (fun j hj => by
    show pop 4 (setb W (x, y, a) j) = pop 4 (W j)
    unfold setb va_up; dsimp only; rw [if_neg hj])
  have e : pop 4 (setb W (x, y, a) (25 * y + x)) = pop 4 (W (25 * y + x)) + 1 := by
    unfold setb va_up; dsimp only; rw [if_pos rfl]; exact pop_or4 h3 hb
  unfold wkc
  omega
theorem sm_lec {f : Nat → Nat} {c n : Nat} (h : ∀ i, i < n → f i ≤ c) : sm f n ≤ n * c := by
  induction n with
  | zero => simp [sm]
  | succ n ih => have := h n (by omega); have := ih (fun i hi => h i (by omega)); rw [sm, Nat.succ_mul]; omega
def wlk (g : Nat → Nat) (W : Nat → Nat) : Prop := ∀ d, rng d → bit W d = true → lok g d
theorem outB2 : ∀ ne nw sw se : Bool, (outB ne nw sw se 0).toNat + (outB ne nw sw se 1).toNat + (outB ne nw sw se 2).toNat + (outB ne nw sw se 3).toNat ≤ 2 := by decide
theorem wc_le {g W : Nat → Nat} (h : wlk g W) : wkc W ≤ 1250 := by
  refine Nat.le_trans (sm_lec (c := 2) fun i hi => ?_) (by decide)
  have hx : i % 25 ≤ 24 := by omega
  have hy : i / 25 ≤ 24 := by omega
  have hi2 : 25 * (i / 25) + i % 25 = i := Nat.div_add_mod i 25
  have hb : ∀ a, a < 4 → (if (W i).testBit a = true then 1 else 0) ≤ (ldr g ((i % 25 : Nat) : Int) ((i / 25 : Nat) : Int) a).toNat := by
    intro a ha
    split
    · next hb =>
      have := (h (i % 25, i / 25, a) ⟨hx, hy, ha⟩ (by unfold bit; dsimp only; rw [hi2]; exact hb)).2.2.2
      dsimp only at this
      rw [this]; decide
    · exact Nat.zero_le _
  have h0 := hb 0 (by decide)
  have h1 := hb 1 (by decide)
  have h2 := hb 2 (by decide)
  have h3 := hb 3 (by decide)
  have hs := outB2 (gc g ((i % 25 : Nat) : Int) ((i / 25 : Nat) : Int)) (gc g (((i % 25 : Nat) : Int) - 1) ((i / 25 : Nat) : Int)) (gc g (((i % 25 : Nat) : Int) - 1) (((i / 25 : Nat) : Int) - 1)) (gc g ((i % 25 : Nat) : Int) (((i / 25 : Nat) : Int) - 1))
  rw [ldr_out] at h0 h1 h2 h3
  simp only [pop]
  omega
theorem pv_rng {g : Nat → Nat} (hg : gok g) {d : Nat × Nat × Nat} (h : lok g d) : rng (pv g d) := by
  obtain ⟨x, y, b⟩ := d
  obtain ⟨h1, h2, h3, h4⟩ := h
  dsimp only at h1 h2 h3 h4
  have t : ∀ (ne nw sw se : Bool) (b : Fin 4), outB ne nw sw se b = true → inB ne nw sw se (pvB ne nw sw se b) = true ∧ pvB ne nw sw se b < 4 := by decide
  rw [ldr_out] at h4
  obtain ⟨t1, t2⟩ := t _ _ _ _ ⟨b, h3⟩ h4
  show pvx x (pvw g x y b) ≤ 24 ∧ pvy y (pvw g x y b) ≤ 24 ∧ pvw g x y b < 4
  have t1 : inB (gc g (x : Int) (y : Int)) (gc g ((x : Int) - 1) y) (gc g ((x : Int) - 1) ((y : Int) - 1)) (gc g x ((y : Int) - 1)) (pvw g x y b) = true := t1
  have t2 : pvw g x y b < 4 := t2
  generalize pvw g x y b = a at t1 t2
  match a, t2 with
  | 0, _ => exact ⟨by show x - 1 ≤ 24; omega, h2, by decide⟩
  | 1, _ => exact ⟨h1, by show y - 1 ≤ 24; omega, by decide⟩
  | 2, _ =>
    have h5 : (gc g x ((y : Int) - 1) && !gc g x y) = true := t1
    rw [Bool.and_eq_true] at h5
    have := gc_in hg h5.1
    exact ⟨by show x + 1 ≤ 24; omega, h2, by decide⟩
  | 3, _ =>
    have h5 : (gc g x y && !gc g ((x : Int) - 1) y) = true := t1
    rw [Bool.and_eq_true] at h5
    have := gc_in hg h5.1
    exact ⟨h1, by show y + 1 ≤ 24; omega, by decide⟩
/-! a walk -/
/-- what is walked after k lines from d on -/
def inW (g W0 : Nat → Nat) (d : Nat × Nat × Nat) (k : Nat) (W : Nat → Nat) : Prop := ∀ e, rng e → (bit W e = true ↔ bit W0 e = true ∨ ∃ i, i < k ∧ Dk g d i = e)
def pcl (g W : Nat → Nat) : Prop := ∀ e, rng e → bit W e = true → lok g e ∧ bit W (pv g e) = true
def isPer (g : Nat → Nat) (d : Nat × Nat × Nat) (m : Nat) : Prop := 1 ≤ m ∧ Dk g d m = d ∧ ∀ i, 1 ≤ i → i < m → Dk g d i ≠ d
noncomputable def per (g : Nat → Nat) (d : Nat × Nat × Nat) : Nat := @dite Nat (∃ m, isPer g d m) (Classical.propDecidable _) Classical.choose (fun _ => 0)
theorem isPer_u {g : Nat → Nat} {d : Nat × Nat × Nat} {m n : Nat} (h : isPer g d m) (h2 : isPer g d n) : m = n := by
  obtain ⟨a1, a2, a3⟩ := h
  obtain ⟨b1, b2, b3⟩ := h2
  rcases Nat.lt_trichotomy m n with z | z | z
  · exact absurd a2 (b3 m a1 z)
  · exact z
  · exact absurd b2 (a3 n b1 z)
theorem per_eq {g : Nat → Nat} {d : Nat × Nat × Nat} {m : Nat} (h : isPer g d m) : per g d = m := by
  have hx : ∃ m, isPer g d m := ⟨m, h⟩
  unfold per
  rw [dif_pos hx]
  exact isPer_u (Classical.choose_spec hx) h
theorem lok_rng {g : Nat → Nat} {d : Nat × Nat × Nat} (h : lok g d) : rng d := ⟨h.1, h.2.1, h.2.2.1⟩
/-- all lines of the walk were new -/
def fresh (g W0 : Nat → Nat) (d : Nat × Nat × Nat) (k : Nat) : Prop := ∀ i, i < k → ¬ bit W0 (Dk g d i) = true ∧ ∀ j, j < i → Dk g d j ≠ Dk g d i
theorem fresh_s {g W0 W : Nat → Nat} {d : Nat × Nat × Nat} {k : Nat} (h : fresh g W0 d k) (hW : inW g W0 d k W) (hr : rng (Dk g d k)) (hb : ¬ bit W (Dk g d k) = true) : fresh g W0 d (k + 1) := by
  intro i hi
  by_cases e : i = k
  · subst e
    exact ⟨fun z => hb ((hW _ hr).mpr (Or.inl z)), fun j hj z => hb ((hW _ hr).mpr (Or.inr ⟨j, hj, z⟩))⟩
  · exact h i (by omega)
/-- a walk that met a walked line has come back to its begin -/
theorem walk_end {g W0 W : Nat → Nat} (hg : gok g) {d : Nat × Nat × Nat} (hd : lok g d) {m : Nat} (h0 : ¬ bit W0 d = true) (hp : pcl g W0) (hf : fresh g W0 d m) (hW : inW g W0 d m W) (he : bit W (Dk g d m) = true) : isPer g d m ∧ 4 ≤ m ∧ pcl g W := by
  have hr := fun k => lok_rng (lok_Dk hg hd k)
  have hback : Dk g d m = d ∧ 1 ≤ m := by
    cases m with
    | zero =>
      rcases (hW _ (hr 0)).mp he with z | ⟨i, hi, _⟩
      · exact absurd z h0
      · omega
    | succ m =>
      refine ⟨?_, by omega⟩
      rcases (hW _ (hr (m + 1))).mp he with z | ⟨i, hi, z⟩
      · have := (hp _ (hr (m + 1)) z).2
        rw [pv_Dk hg hd] at this
        exact absurd this (hf m (by omega)).1
      · cases i with
        | zero => exact z.symm
        | succ i =>
          have e := congrArg (pv g) z
          rw [pv_Dk hg hd, pv_Dk hg hd] at e
          exact absurd e ((hf m (by omega)).2 i (by omega))
  have hper : isPer g d m := ⟨hback.2, hback.1, fun i h1 h2 z => (hf i h2).2 0 (by omega) z.symm⟩
  refine ⟨hper, Dk_123 hg hd hback.1 hback.2, ?_⟩
  intro e hr2 hb
  rcases (hW e hr2).mp hb with z | ⟨i, hi, z⟩
  · obtain ⟨a1, a2⟩ := hp e hr2 z
    exact ⟨a1, (hW _ (pv_rng hg a1)).mpr (Or.inl a2)⟩
  · subst z
    refine ⟨lok_Dk hg hd i, ?_⟩
    cases i with
    | zero =>
      have e : pv g d = Dk g d (m - 1) := by
        have := pv_Dk hg hd (m - 1)
        rw [show m - 1 + 1 = m by omega, hback.1] at this
        exact this
      show bit W (pv g d) = true
      rw [e]
      exact (hW _ (hr _)).mpr (Or.inr ⟨m - 1, by omega, rfl⟩)
    | succ i =>
      rw [pv_Dk hg hd]
      exact (hW _ (hr _)).mpr (Or.inr ⟨i, by omega, rfl⟩)
/-! corners and areas -/
def lastK (g : Nat → Nat) (d : Nat × Nat × Nat) : Nat → Int
  | 0 => -1
  | k + 1 => ((Dk g d k).2.2 : Int)
def crnK (g : Nat → Nat) (d : Nat × Nat × Nat) : Nat → List (Nat × Nat × Nat)
  | 0 => []
  | k + 1 => if ((Dk g d k).2.2 : Int) = lastK g d k then crnK g d k else crnK g d k ++ [Dk g d k]
def arK (g : Nat → Nat) (d : Nat × Nat × Nat) : Nat → Int
  | 0 => 0
  | k + 1 => arK g d k + (if (Dk g d k).2.2 = 1 then ((Dk g d k).1 : Int) else if (Dk g d k).2.2 = 3 then -((Dk g d k).1 : Int) else 0)
noncomputable def crn (g : Nat → Nat) (d : Nat × Nat × Nat) : List (Nat × Nat × Nat) := crnK g d (per g d)
noncomputable def arA (g : Nat → Nat) (d : Nat × Nat × Nat) : Int := arK g d (per g d)
theorem crnK_le (g : Nat → Nat) (d : Nat × Nat × Nat) (k : Nat) : (crnK g d k).length ≤ k := by
  induction k with
  | zero => exact Nat.le_refl _
  | succ k ih =>
    rw [crnK]
    split
    · omega
    · rw [List.length_append]; simp; omega
theorem arK_rng {g : Nat → Nat} (hg : gok g) {d : Nat × Nat × Nat} (hd : lok g d) (k : Nat) : -(24 * (k : Int)) ≤ arK g d k ∧ arK g d k ≤ 24 * (k : Int) := by
  induction k with
  | zero => simp [arK]
  | succ k ih =>
    have := (lok_Dk hg hd k).1
    rw [arK]
    split
    · omega
    · split <;> omega
/-- the line j of the board, in the order of search -/
def lj (j : Nat) : Nat × Nat × Nat := (j / 4 % 25, j / 4 / 25, j % 4)
/-- the begins of the outlines found among the first j lines -/
noncomputable def outs (g : Nat → Nat) : Nat → List (Nat × Nat × Nat)
  | 0 => []
  | j + 1 => @ite _ (lok g (lj j) ∧ ¬ ∃ d, d ∈ outs g j ∧ ∃ i, i < per g d ∧ Dk g d i = lj j) (Classical.propDecidable _) (outs g j ++ [lj j]) (outs g j)
def agr (f : Nat → Int) (l : List Int) : Prop := ∀ i, (h : i < l.length) → f i = l[i]
theorem agr_up {f : Nat → Int} {l : List Int} (h : agr f l) {n : Nat} (hn : n = l.length) (v : Int) : agr (va_up f n v) (l ++ [v]) := by
  subst hn
  intro i hi
  unfold va_up
  by_cases e : i = l.length
  · subst e; rw [if_pos rfl, List.getElem_append_right (Nat.le_refl _)]; simp
  · rw [if_neg e, List.getElem_append_left (by simp at hi; omega)]
    exact h i _
def lnX (l : List (Nat × Nat × Nat)) : List Int := l.map (fun e => (e.1 : Int))
def lnY (l : List (Nat × Nat × Nat)) : List Int := l.map (fun e => (e.2.1 : Int))
noncomputable def offs (g : Nat → Nat) (L : List (Nat × Nat × Nat)) : List (Nat × Nat × Nat) := (L.map (crn g)).flatten
/-! the invariants -/
/-- the reference's cells of outlines -/
def mT (S : mS) (W : Nat → Nat) (cx cy bg ar : Nat → Int) (on cn : Int) : mS := (va_up (va_up S.1 2 on) 3 cn, va_up S.2.1 4 W, va_up (va_up (va_up (va_up S.2.2 3 cx) 4 cy) 5 bg) 6 ar)
def LI (g W0 : Nat → Nat) (d : Nat × Nat × Nat) (C0 : List (Nat × Nat × Nat)) (k : Nat) (W : Nat → Nat) (cx cy : Nat → Int) (cn : Nat) : Prop :=
  w16 W ∧ inW g W0 d k W ∧ fresh g W0 d k ∧ wkc W = wkc W0 + k ∧ cn = (C0 ++ crnK g d k).length ∧ agr cx (lnX (C0 ++ crnK g d k)) ∧ agr cy (lnY (C0 ++ crnK g d k))
def TI (g : Nat → Nat) (j : Nat) (W : Nat → Nat) (cx cy bg ar : Nat → Int) (on cn : Nat) : Prop :=
  w16 W ∧ pcl g W ∧ (∀ e, rng e → (bit W e = true ↔ ∃ d, d ∈ outs g j ∧ ∃ i, i < per g d ∧ Dk g d i = e)) ∧ on = (outs g j).length ∧ 4 * on ≤ wkc W ∧ cn = (offs g (outs g j)).length ∧ cn ≤ wkc W ∧
  agr cx (lnX (offs g (outs g j))) ∧ agr cy (lnY (offs g (outs g j))) ∧ (∀ i, i < on → bg i = ((offs g ((outs g j).take i)).length : Int) ∧ bg (i + 1) = ((offs g ((outs g j).take (i + 1))).length : Int)) ∧
  (∀ i, (h : i < (outs g j).length) → ar i = arA g (outs g j)[i])
theorem LI_0 {g W : Nat → Nat} {j : Nat} {cx cy bg ar : Nat → Int} {on cn : Nat} (h : TI g j W cx cy bg ar on cn) (d : Nat × Nat × Nat) : LI g W d (offs g (outs g j)) 0 W cx cy cn := by
  obtain ⟨h1, h2, h3, h4, h5, h6, h7, h8, h9, h10, h11⟩ := h
  refine ⟨h1, fun e _ => ⟨Or.inl, fun z => ?_⟩, fun i hi => absurd hi (by omega), rfl, by simpa [crnK] using h6, by simpa [crnK] using h8, by simpa [crnK] using h9⟩
  rcases z with z | ⟨i, hi, _⟩
  · exact z
  · omega
theorem inW_s {g W0 W : Nat → Nat} {d : Nat × Nat × Nat} {k : Nat} (h : inW g W0 d k W) (hr : rng (Dk g d k)) : inW g W0 d (k + 1) (setb W (Dk g d k)) := by
  intro e he
  rw [bit_setb W hr he, h e he]
  constructor
  · rintro ((z | ⟨i, hi, z⟩) | z)
    · exact Or.inl z
    · exact Or.inr ⟨i, by omega, z⟩
    · exact Or.inr ⟨k, by omega, z⟩
  · rintro (z | ⟨i, hi, z⟩)
    · exact Or.inl (Or.inl z)
    · by_cases e2 : i = k
      · subst e2; exact Or.inr z
      · exact Or.inl (Or.inr ⟨i, by omega, z⟩)
theorem LI_c {g W0 W : Nat → Nat} (hg : gok g) {d e : Nat × Nat × Nat} (hd : lok g d) {C0 : List (Nat × Nat × Nat)} {k : Nat} {cx cy : Nat → Int} {cn : Nat} (h : LI g W0 d C0 k W cx cy cn) (he : Dk g d k = e) (hb : ¬ bit W e = true) (hc : ¬ (e.2.2 : Int) = lastK g d k) : LI g W0 d C0 (k + 1) (setb W e) (va_up cx cn (e.1 : Int)) (va_up cy cn (e.2.1 : Int)) (cn + 1) := by
  subst he
  have hr := lok_rng (lok_Dk hg hd k)
  obtain ⟨h1, h2, h3, h4, h5, h6, h7⟩ := h
  have ec : crnK g d (k + 1) = crnK g d k ++ [Dk g d k] := by rw [crnK, if_neg hc]
  refine ⟨setb_16 h1 hr, inW_s h2 hr, fresh_s h3 h2 hr hb, by rw [wc_set hr hb]; omega, ?_, ?_, ?_⟩
  · rw [ec, ← List.append_assoc, List.length_append, ← h5]; rfl
  · rw [ec, ← List.append_assoc, lnX, List.map_append]
    exact agr_up h6 (by rw [lnX, List.length_map]; exact h5) _
  · rw [ec, ← List.append_assoc, lnY, List.map_append]
    exact agr_up h7 (by rw [lnY, List.length_map]; exact h5) _
theorem LI_n {g W0 W : Nat → Nat} (hg : gok g) {d e : Nat × Nat × Nat} (hd : lok g d) {C0 : List (Nat × Nat × Nat)} {k : Nat} {cx cy : Nat → Int} {cn : Nat} (h : LI g W0 d C0 k W cx cy cn) (he : Dk g d k = e) (hb : ¬ bit W e = true) (hc : (e.2.2 : Int) = lastK g d k) : LI g W0 d C0 (k + 1) (setb W e) cx cy cn := by
  subst he
  have hr := lok_rng (lok_Dk hg hd k)
  obtain ⟨h1, h2, h3, h4, h5, h6, h7⟩ := h
  have ec : crnK g d (k + 1) = crnK g d k := by rw [crnK, if_pos hc]
  rw [← ec] at h5 h6 h7
  exact ⟨setb_16 h1 hr, inW_s h2 hr, fresh_s h3 h2 hr hb, by rw [wc_set hr hb]; omega, h5, h6, h7⟩
theorem LI_lok {g W0 W : Nat → Nat} (hg : gok g) {d : Nat × Nat × Nat} (hd : lok g d) {k : Nat} (hp : pcl g W0) (h : inW g W0 d k W) : wlk g W := by
  intro e hr hb
  rcases (h e hr).mp hb with z | ⟨i, hi, z⟩
  · exact (hp e hr z).1
  · subst z; exact lok_Dk hg hd i
theorem LI_b {g W0 W : Nat → Nat} (hg : gok g) {d e : Nat × Nat × Nat} (hd : lok g d) {C0 : List (Nat × Nat × Nat)} {k : Nat} {cx cy : Nat → Int} {cn : Nat} (h : LI g W0 d C0 k W cx cy cn) (hp : pcl g W0) (hC : C0.length ≤ wkc W0) (he : Dk g d k = e) (hb : ¬ bit W e = true) : cn + 1 ≤ 1250 ∧ wkc W0 + k + 1 ≤ 1250 := by
  subst he
  have hr := lok_rng (lok_Dk hg hd k)
  have h1 := wc_le (LI_lok hg hd hp (inW_s h.2.1 hr))
  rw [wc_set hr hb, h.2.2.2.1] at h1
  have h2 := h.2.2.2.2.1
  have h3 := crnK_le g d k
  rw [List.length_append] at h2
  omega
theorem offs_snoc (g : Nat → Nat) (L : List (Nat × Nat × Nat)) (d : Nat × Nat × Nat) : offs g (L ++ [d]) = offs g L ++ crn g d := by
  unfold offs; simp
theorem outs_y {g : Nat → Nat} {j : Nat} (h : lok g (lj j)) (h2 : ¬ ∃ d, d ∈ outs g j ∧ ∃ i, i < per g d ∧ Dk g d i = lj j) : outs g (j + 1) = outs g j ++ [lj j] := by
  rw [outs, if_pos ⟨h, h2⟩]
theorem outs_n {g : Nat → Nat} {j : Nat} (h : ¬ (lok g (lj j) ∧ ¬ ∃ d, d ∈ outs g j ∧ ∃ i, i < per g d ∧ Dk g d i = lj j)) : outs g (j + 1) = outs g j := by
  rw [outs, if_neg h]
theorem TI_skip {g W : Nat → Nat} {j : Nat} {cx cy bg ar : Nat → Int} {on cn : Nat} (h : TI g j W cx cy bg ar on cn) (hr : rng (lj j)) (hs : ¬ (lok g (lj j) ∧ ¬ bit W (lj j) = true)) : TI g (j + 1) W cx cy bg ar on cn := by
  have : outs g (j + 1) = outs g j := outs_n (fun z => hs ⟨z.1, fun b => z.2 ((h.2.2.1 _ hr).mp b)⟩)
  unfold TI
  rw [this]
  exact h
theorem TI_end {g W0 W : Nat → Nat} (hg : gok g) {j : Nat} {cx0 cy0 cx cy bg ar : Nat → Int} {on cn0 cn m : Nat} {d : Nat × Nat × Nat} (h : TI g j W0 cx0 cy0 bg ar on cn0) (hj : lj j = d) (hd : lok g d) (hb : ¬ bit W0 d = true) (hL : LI g W0 d (offs g (outs g j)) m W cx cy cn) (he : bit W (Dk g d m) = true) :
    TI g (j + 1) W cx cy (va_up (va_up bg on (cn0 : Int)) (on + 1) (cn : Int)) (va_up ar on (arK g d m)) (on + 1) cn := by
  obtain ⟨t1, t2, t3, t4, t5, t6, t7, t8, t9, t10, t11⟩ := h
  obtain ⟨l1, l2, l3, l4, l5, l6, l7⟩ := hL
  subst hj
  have hr := lok_rng hd
  obtain ⟨e1, e2, e3⟩ := walk_end hg hd hb t2 l3 l2 he
  have ep := per_eq e1
  have eo : outs g (j + 1) = outs g j ++ [lj j] := outs_y hd (fun z => hb ((t3 _ hr).mpr z))
  have ec : crnK g (lj j) m = crn g (lj j) := by rw [crn, ep]
  rw [ec, ← offs_snoc] at l5 l6 l7
  unfold TI
  rw [eo]
  refine ⟨l1, e3, ?_, by rw [List.length_append, ← t4]; rfl, by omega, l5, ?_, l6, l7, ?_, ?_⟩
  · intro e he2
    rw [l2 e he2, t3 e he2]
    constructor
    · rintro (⟨d2, hd2, z⟩ | ⟨i, hi, z⟩)
      · exact ⟨d2, List.mem_append_left _ hd2, z⟩
      · exact ⟨lj j, List.mem_append_right _ (List.mem_singleton.mpr rfl), i, by rw [ep]; exact hi, z⟩
    · rintro ⟨d2, hd2, i, hi, z⟩
      rcases List.mem_append.mp hd2 with z2 | z2
      · exact Or.inl ⟨d2, z2, i, hi, z⟩
      · rw [List.mem_singleton.mp z2] at hi z
        exact Or.inr ⟨i, by rw [ep] at hi; exact hi, z⟩
  · rw [l5, offs_snoc, List.length_append, l4, ← t6, ← ec]
    have := crnK_le g (lj j) m
    omega
  · intro i hi
    by_cases e : i = on
    · subst e
      refine ⟨?_, ?_⟩
      · unfold va_up
        rw [if_neg (by omega), if_pos rfl, t4, List.take_left', t6]
        rfl
      · unfold va_up
        rw [if_pos rfl, List.take_of_length_le (by rw [List.length_append, ← t4]; exact Nat.le_refl _), l5]
    · have hi2 : i < on := by omega
      have := t10 i hi2
      rw [List.take_append_of_le_length (by omega), List.take_append_of_le_length (by omega)]
      unfold va_up
      rw [if_neg (by omega), if_neg (by omega), if_neg (by omega)]
      refine ⟨this.1, ?_⟩
      split
      · next e5 => rw [List.take_of_length_le (by omega), ← t6]
      · exact this.2
  · intro i hi
    unfold va_up
    by_cases e : i = on
    · subst e
      rw [if_pos rfl, List.getElem_append_right (by omega)]
      simp only [← t4, Nat.sub_self, List.getElem_cons_zero]
      rw [arA, ep]
    · rw [if_neg e, List.getElem_append_left (by rw [List.length_append] at hi; simp at hi; omega)]
      exact t11 i _
theorem lastK_rng {g : Nat → Nat} (hg : gok g) {d : Nat × Nat × Nat} (hd : lok g d) (k : Nat) : -1 ≤ lastK g d k ∧ lastK g d k ≤ 3 := by
  cases k with
  | zero => exact ⟨Int.le_refl (-1), (by decide : (-1 : Int) ≤ 3)⟩
  | succ k => have := (lok_Dk hg hd k).2.2.1; rw [lastK]; omega
theorem lok_pos {g : Nat → Nat} (hg : gok g) {x y a : Nat} (h : lok g (x, y, a)) : (a = 2 → 1 ≤ x) ∧ (a = 3 → 1 ≤ y) := by
  have h2 := lok_in hg h
  refine ⟨fun e => ?_, fun e => ?_⟩
  · subst e
    have h3 : x - 1 + 1 = x := h2.2.2.1
    omega
  · subst e
    have h3 : y - 1 + 1 = y := h2.2.2.2.1
    omega
