set_option maxRecDepth 100000
/-! PLAIN LAWS: the largest rectangle below a skyline, by a stack; the largest square, row by row -/
def stk (hts : Nat → Nat) (x : Nat) : List Nat → Prop
  | [] => True
  | s :: S => s < x ∧ lbL S ≤ s ∧ (∀ i, lbL S ≤ i → i < x → hts s ≤ hts i) ∧ stk hts x S
def opn (hts : Nat → Nat) (x0 h : Nat) : List Nat → Prop
  | [] => False
  | s :: S => (lbL S ≤ x0 ∧ h ≤ hts s) ∨ opn hts x0 h S
def itv (hts : Nat → Nat) (x0 x1 h : Nat) : Prop := ∀ i, x0 ≤ i → i < x1 → h ≤ hts i
def gdI (hts : Nat → Nat) (x b : Nat) : Prop := b = 0 ∨ ∃ x0 x1 h, x0 < x1 ∧ x1 ≤ x ∧ itv hts x0 x1 h ∧ b = h * (x1 - x0)
theorem pop_inv {hts : Nat → Nat} {x hg : Nat} : ∀ (S : List Nat) (b : Nat), stk hts x S → (∀ i, lbL S ≤ i → i < x → hg ≤ hts i) → gdI hts x b →
    stk hts x (lbPop hts x hg S b).1 ∧ b ≤ (lbPop hts x hg S b).2 ∧ gdI hts x (lbPop hts x hg S b).2 ∧ (∀ i, lbL (lbPop hts x hg S b).1 ≤ i → i < x → hg ≤ hts i) ∧
    (∀ s S', (lbPop hts x hg S b).1 = s :: S' → hts s < hg) ∧ ∀ x0 x1 h, x0 < x1 → x1 ≤ x → opn hts x0 h S → opn hts x0 h (lbPop hts x hg S b).1 ∨ h * (x1 - x0) ≤ (lbPop hts x hg S b).2 := by
  intro S
  induction S with
  | nil => intro b h1 h2 h3; exact ⟨h1, Nat.le_refl _, h3, h2, fun s S' e => (by cases e), fun x0 x1 h _ _ ho => ho.elim⟩
  | cons s S ih =>
    intro b h1 h2 h3
    obtain ⟨a1, a2, a3, a4⟩ := h1
    by_cases c : hg ≤ hts s
    · rw [lbPop_y c]
      have hgd : gdI hts x (max b (hts s * (x - lbL S))) := by
        by_cases e : hts s * (x - lbL S) ≤ b
        · rw [show max b (hts s * (x - lbL S)) = b by omega]
          exact h3
        · exact Or.inr ⟨lbL S, x, hts s, by omega, Nat.le_refl _, a3, by omega⟩
      obtain ⟨i1, i2, i3, i4, i5, i6⟩ := ih (max b (hts s * (x - lbL S))) a4 (fun i q1 q2 => Nat.le_trans c (a3 i q1 q2)) hgd
      refine ⟨i1, by omega, i3, i4, i5, fun x0 x1 h q1 q2 ho => ?_⟩
      rcases ho with ho | ho
      · right
        have : h * (x1 - x0) ≤ hts s * (x - lbL S) := Nat.mul_le_mul ho.2 (by omega)
        omega
      · exact i6 x0 x1 h q1 q2 ho
    · rw [lbPop_n c]
      exact ⟨⟨a1, a2, a3, a4⟩, Nat.le_refl _, h3, h2, fun s' S' e => by (injection e with e1 e2; subst e1; omega), fun x0 x1 h _ _ ho => Or.inl ho⟩
theorem stk_up {hts : Nat → Nat} {x hg : Nat} : ∀ S : List Nat, stk hts x S → (∀ s S', S = s :: S' → hts s ≤ hg) → hts x = hg → stk hts (x + 1) S ∧ lbL S ≤ x := by
  intro S
  induction S with
  | nil => intro _ _ _; exact ⟨trivial, Nat.zero_le _⟩
  | cons s S ih =>
    intro h1 h2 h3
    obtain ⟨a1, a2, a3, a4⟩ := h1
    have hs := h2 s S rfl
    refine ⟨⟨by omega, a2, fun i q1 q2 => ?_, ?_⟩, by show s + 1 ≤ x; omega⟩
    · by_cases e : i = x
      · subst e; omega
      · exact a3 i q1 (by omega)
    · refine (ih a4 (fun s' S' e => ?_) h3).1
      subst e
      obtain ⟨b1, b2, b3, b4⟩ := a4
      have h5 : s' + 1 ≤ s := a2
      have := b3 s (by omega) a1
      omega
theorem stk_part {hts : Nat → Nat} {x x0 h : Nat} (hh : itv hts x0 x h) : ∀ S : List Nat, stk hts x S → x0 < lbL S → opn hts x0 h S := by
  intro S
  induction S with
  | nil => intro _ h; exact absurd h (Nat.not_lt_zero _)
  | cons s S ih =>
    intro h1 h2
    obtain ⟨a1, a2, a3, a4⟩ := h1
    have h3 : x0 < s + 1 := h2
    by_cases c : lbL S ≤ x0
    · exact Or.inl ⟨c, hh s (by omega) a1⟩
    · exact Or.inr (ih a4 (by omega))
theorem lb_inv {hts : Nat → Nat} (h24 : hts 24 = 0) : ∀ x, x ≤ 25 → stk hts x (lbS hts x).1 ∧ lbL (lbS hts x).1 = x ∧ gdI hts x (lbS hts x).2 ∧ ∀ x0 x1 h, x0 < x1 → x1 ≤ x → itv hts x0 x1 h → h * (x1 - x0) ≤ (lbS hts x).2 ∨ opn hts x0 h (lbS hts x).1 := by
  intro x
  induction x with
  | zero => intro _; exact ⟨trivial, rfl, Or.inl rfl, fun x0 x1 h q1 q2 => by omega⟩
  | succ x ih =>
    intro hx
    obtain ⟨i1, i2, i3, i4⟩ := ih (by omega)
    have hgx : hts x = (if x = 24 then 0 else hts x) := by
      split
      · next e => subst e; exact h24
      · rfl
    obtain ⟨p1, p2, p3, p4, p5, p6⟩ := pop_inv (hg := if x = 24 then 0 else hts x) (lbS hts x).1 (lbS hts x).2 i1 (fun i q1 q2 => by rw [i2] at q1; omega) i3
    rw [lbS]
    generalize (if x = 24 then 0 else hts x) = hg at hgx p1 p2 p3 p4 p5 p6
    generalize lbPop hts x hg (lbS hts x).1 (lbS hts x).2 = t at p1 p2 p3 p4 p5 p6
    obtain ⟨u1, u2⟩ := stk_up t.1 p1 (fun s S' e => Nat.le_of_lt (p5 s S' e)) hgx
    have hst : stk hts (x + 1) (x :: t.1) := by
      refine ⟨by omega, u2, fun i q1 q2 => ?_, u1⟩
      by_cases e : i = x
      · subst e; exact Nat.le_refl _
      · rw [hgx]; exact p4 i q1 (by omega)
    refine ⟨hst, rfl, ?_, fun x0 x1 h q1 q2 q3 => ?_⟩
    · rcases p3 with z | ⟨x0, x1, h, z1, z2, z3⟩
      · exact Or.inl z
      · exact Or.inr ⟨x0, x1, h, z1, by omega, z3⟩
    · by_cases e : x1 = x + 1
      · subst e
        exact Or.inr (stk_part q3 _ hst (by show x0 < x + 1; omega))
      · rcases i4 x0 x1 h q1 (by omega) q3 with z | z
        · left; dsimp only; omega
        · rcases p6 x0 x1 h q1 (by omega) z with y | y
          · exact Or.inr (Or.inr y)
          · exact Or.inl y
theorem lb_law {hts : Nat → Nat} (h24 : ∀ i, 24 ≤ i → hts i = 0) : (∀ x0 x1 h, x0 < x1 → 0 < h → itv hts x0 x1 h → h * (x1 - x0) ≤ (lbS hts 25).2) ∧ gdI hts 25 (lbS hts 25).2 := by
  have hz := h24 24 (Nat.le_refl _)
  obtain ⟨h1, h2, h3, h4⟩ := lb_inv hz 25 (Nat.le_refl _)
  refine ⟨fun x0 x1 h q1 q2 q3 => ?_, h3⟩
  have hx1 : x1 ≤ 24 := by
    apply Classical.byContradiction
    intro c
    have := q3 (x1 - 1) (by omega) (by omega)
    rw [h24 _ (by omega)] at this; omega
  rcases h4 x0 x1 h q1 (by omega) q3 with z | z
  · exact z
  · exfalso
    -- the stack holds the column 24 alone
    have hS : (lbS hts 25).1 = 24 :: (lbPop hts 24 0 (lbS hts 24).1 (lbS hts 24).2).1 := rfl
    have hp : ∀ (S : List Nat) (b : Nat), (lbPop hts 24 0 S b).1 = [] := by
      intro S
      induction S with
      | nil => intro b; rfl
      | cons s S ih => intro b; rw [lbPop_y (Nat.zero_le _)]; exact ih _
    rw [hS, hp] at z
    rcases z with z | z
    · rw [hz] at z; omega
    · exact z
/-- heights of columns -/
theorem lrH_spec {g : Nat → Nat} (hg : gok g) (y x h : Nat) (hx : x < 24) : h ≤ lrH g y x ↔ h ≤ y ∧ ∀ r, y - h ≤ r → r < y → (g r).testBit x = true := by
  induction y generalizing h with
  | zero =>
    constructor
    · intro z; exact ⟨z, fun r h1 h2 => absurd h2 (Nat.not_lt_zero _)⟩
    · intro z; exact z.1
  | succ y ih =>
    have hgc : gcI g ((x : Nat) : Int) ((y : Nat) : Int) = (g y).testBit x := by rw [gcI_gc hg, gc_nat]
    rw [lrH]
    dsimp only
    rw [if_pos hx, hgc]
    by_cases c : (g y).testBit x = true
    · rw [if_pos c]
      cases h with
      | zero => exact ⟨fun _ => ⟨Nat.zero_le _, fun r h1 h2 => by omega⟩, fun _ => Nat.zero_le _⟩
      | succ h =>
        constructor
        · intro z
          obtain ⟨z1, z2⟩ := (ih h).mp (by omega)
          refine ⟨by omega, fun r h1 h2 => ?_⟩
          by_cases e : r = y
          · subst e; exact c
          · exact z2 r (by omega) (by omega)
        · rintro ⟨z1, z2⟩
          have := (ih h).mpr ⟨by omega, fun r h1 h2 => z2 r (by omega) (by omega)⟩
          omega
    · rw [if_neg c]
      constructor
      · intro z; exact ⟨by omega, fun r h1 h2 => by omega⟩
      · rintro ⟨z1, z2⟩
        apply Classical.byContradiction
        intro d
        exact c (z2 y (by omega) (by omega))
theorem lr_fit {g : Nat → Nat} (hg : gok g) {x0 w y0 h : Nat} (hw : x0 + w ≤ 24) : itv (lrH g (y0 + h)) x0 (x0 + w) h ↔ fitR g x0 w y0 h := by
  constructor
  · intro z x y h1 h2 h3 h4
    exact ((lrH_spec hg (y0 + h) x h (by omega)).mp (z x h1 h2)).2 y (by omega) h4
  · intro z i h1 h2
    exact (lrH_spec hg (y0 + h) i h (by omega)).mpr ⟨by omega, fun r q1 q2 => z i r h1 h2 (by omega) q2⟩
theorem lrM_spec {g : Nat → Nat} (y : Nat) : (∀ r, r < y → (lbS (lrH g (r + 1)) 25).2 ≤ lrM g y) ∧ (lrM g y = 0 ∨ ∃ r, r < y ∧ lrM g y = (lbS (lrH g (r + 1)) 25).2) := by
  induction y with
  | zero => exact ⟨fun r h => absurd h (Nat.not_lt_zero _), Or.inl rfl⟩
  | succ y ih =>
    obtain ⟨h1, h2⟩ := ih
    rw [lrM]
    refine ⟨fun r hr => ?_, ?_⟩
    · by_cases e : r = y
      · subst e; omega
      · have := h1 r (by omega); omega
    · by_cases c : (lbS (lrH g (y + 1)) 25).2 ≤ lrM g y
      · rw [show max (lrM g y) (lbS (lrH g (y + 1)) 25).2 = lrM g y by omega]
        rcases h2 with z | ⟨r, a, b⟩
        · exact Or.inl z
        · exact Or.inr ⟨r, by omega, b⟩
      · exact Or.inr ⟨y, by omega, by omega⟩
theorem lrM_law {g : Nat → Nat} (hg : gok g) : lrM g 24 = larR g := by
  refine isMx_u (μ := fun w h => w * h) ⟨fun x0 w y0 h hf hw hh => ?_, ?_⟩ (larR_mx hg)
  · have hin := fit_in hg hf hw hh
    have h1 := (lb_law (hts := lrH g (y0 + h)) (fun i hi => lrH_hi g _ hi)).1 x0 (x0 + w) h (by omega) hh ((lr_fit hg hin.1).mpr hf)
    have h2 := (lrM_spec (g := g) 24).1 (y0 + h - 1) (by omega)
    rw [show y0 + h - 1 + 1 = y0 + h by omega] at h2
    rw [Nat.add_sub_cancel_left, Nat.mul_comm] at h1
    dsimp only; omega
  · rcases (lrM_spec (g := g) 24).2 with z | ⟨r, a, z⟩
    · exact Or.inl z
    · rw [z]
      rcases (lb_law (hts := lrH g (r + 1)) (fun i hi => lrH_hi g _ hi)).2 with z2 | ⟨x0, x1, h, q1, q2, q3, q4⟩
      · exact Or.inl z2
      · by_cases c : h = 0
        · left; rw [q4, c, Nat.zero_mul]
        · have hx1 : x1 ≤ 24 := by
            apply Classical.byContradiction
            intro d
            have := q3 (x1 - 1) (by omega) (by omega)
            rw [lrH_hi g _ (by omega)] at this; omega
          have hle : h ≤ r + 1 := Nat.le_trans (q3 x0 (Nat.le_refl _) q1) (lrH_le g _ _)
          refine Or.inr ⟨x0, x1 - x0, r + 1 - h, h, (lr_fit hg (by omega)).mp ?_, by omega, by omega, by rw [q4, Nat.mul_comm]⟩
          rw [show r + 1 - h + h = r + 1 by omega, show x0 + (x1 - x0) = x1 by omega]; exact q3
/-! squares -/
def sqs (g : Nat → Nat) (y i s : Nat) : Prop := s ≤ i ∧ s ≤ y ∧ fitR g (i - s) s (y - s) s
/-- the greatest square whose last corner is there -/
def sqm (g : Nat → Nat) (y i v : Nat) : Prop := sqs g y i v ∧ ∀ s, sqs g y i s → s ≤ v
theorem sqs_0 (g : Nat → Nat) (y i : Nat) : sqs g y i 0 := ⟨Nat.zero_le _, Nat.zero_le _, fun x r h1 h2 _ _ => by omega⟩
theorem sqs_le {g : Nat → Nat} {y i s t : Nat} (h : sqs g y i s) (ht : t ≤ s) : sqs g y i t := ⟨by have := h.1; omega, by have := h.2.1; omega, fun x r h1 h2 h3 h4 => h.2.2 x r (by omega) (by have := h.1; omega) (by omega) (by have := h.2.1; omega)⟩
theorem sqs_step {g : Nat → Nat} {y i s : Nat} : sqs g (y + 1) (i + 1) (s + 1) ↔ (g y).testBit i = true ∧ sqs g y i s ∧ sqs g y (i + 1) s ∧ sqs g (y + 1) i s := by
  constructor
  · rintro ⟨h1, h2, h3⟩
    refine ⟨h3 i y (by omega) (by omega) (by omega) (by omega), ⟨by omega, by omega, fun x r q1 q2 q3 q4 => h3 x r (by omega) (by omega) (by omega) (by omega)⟩, ⟨by omega, by omega, fun x r q1 q2 q3 q4 => h3 x r (by omega) (by omega) (by omega) (by omega)⟩, ⟨by omega, by omega, fun x r q1 q2 q3 q4 => h3 x r (by omega) (by omega) (by omega) (by omega)⟩⟩
  · rintro ⟨h0, ⟨a1, a2, a3⟩, ⟨b1, b2, b3⟩, ⟨c1, c2, c3⟩⟩
    refine ⟨by omega, by omega, fun x r q1 q2 q3 q4 => ?_⟩
    by_cases e : r = y
    · by_cases e2 : x = i
      · subst e; subst e2; exact h0
      · exact c3 x r (by omega) (by omega) (by omega) (by omega)
    · by_cases e2 : x = i
      · exact b3 x r (by omega) (by omega) (by omega) (by omega)
      · exact a3 x r (by omega) (by omega) (by omega) (by omega)
theorem sqm_step {g : Nat → Nat} {y i a b c : Nat} (ha : sqm g y i a) (hb : sqm g y (i + 1) b) (hc : sqm g (y + 1) i c) : sqm g (y + 1) (i + 1) (if (g y).testBit i = true then min a (min b c) + 1 else 0) := by
  by_cases h : (g y).testBit i = true
  · rw [if_pos h]
    refine ⟨sqs_step.mpr ⟨h, sqs_le ha.1 (by omega), sqs_le hb.1 (by omega), sqs_le hc.1 (by omega)⟩, fun s hs => ?_⟩
    cases s with
    | zero => omega
    | succ s =>
      obtain ⟨_, h1, h2, h3⟩ := sqs_step.mp hs
      have := ha.2 s h1
      have := hb.2 s h2
      have := hc.2 s h3
      omega
  · rw [if_neg h]
    refine ⟨sqs_0 _ _ _, fun s hs => ?_⟩
    cases s with
    | zero => omega
    | succ s => exact absurd (sqs_step.mp hs).1 h
theorem sqm_0 {g : Nat → Nat} (y : Nat) : sqm g y 0 0 := ⟨sqs_0 _ _ _, fun s h => by have := h.1; omega⟩
theorem sqm_00 {g : Nat → Nat} (i : Nat) : sqm g 0 i 0 := ⟨sqs_0 _ _ _, fun s h => by have := h.2.1; omega⟩
/-- the best so far -/
def sqb (g : Nat → Nat) (b : Nat) : Prop := b = 0 ∨ ∃ y i, sqs g y i b
theorem sq_inv {g : Nat → Nat} (hg : gok g) : ∀ y, y ≤ 24 → (∀ i, i ≤ 24 → sqm g y i ((sqT g y).1 i)) ∧ sqb g (sqT g y).2 ∧ ∀ r i s, r ≤ y → i ≤ 24 → sqs g r i s → s ≤ (sqT g y).2 := by
  intro y
  induction y with
  | zero => intro _; exact ⟨fun i _ => sqm_00 i, Or.inl rfl, fun r i s h1 h2 h3 => by have := h3.2.1; omega⟩
  | succ y ih =>
    intro hy
    obtain ⟨h1, h2, h3⟩ := ih (by omega)
    have hA0 : (sqT g y).1 0 = 0 := by have := (h1 0 (by omega)).1.1; omega
    have key : ∀ k, k ≤ 24 → (sqW g y (sqT g y).1 (sqT g y).2 k).1 = (sqT g y).1 k ∧ (∀ i, i ≤ 24 → sqm g (if i ≤ k then y + 1 else y) i ((sqW g y (sqT g y).1 (sqT g y).2 k).2.1 i)) ∧ sqb g (sqW g y (sqT g y).1 (sqT g y).2 k).2.2 ∧ (sqT g y).2 ≤ (sqW g y (sqT g y).1 (sqT g y).2 k).2.2 ∧ (∀ i, k < i → (sqW g y (sqT g y).1 (sqT g y).2 k).2.1 i = (sqT g y).1 i) ∧ ∀ i s, i ≤ k → sqs g (y + 1) i s → s ≤ (sqW g y (sqT g y).1 (sqT g y).2 k).2.2 := by
      intro k
      induction k with
      | zero =>
        intro _
        refine ⟨hA0.symm, fun i hi => ?_, h2, Nat.le_refl _, fun i _ => rfl, fun i s h4 h5 => by have := h5.1; omega⟩
        show sqm g _ i ((sqT g y).1 i)
        by_cases e : i = 0
        · subst e; rw [hA0]; exact sqm_0 _
        · rw [if_neg (by omega)]; exact h1 i hi
      | succ k ik =>
        intro hk
        obtain ⟨k1, k2, k3, k4, k5, k6⟩ := ik (by omega)
        rw [sqW, sqQ]
        generalize hq : sqW g y (sqT g y).1 (sqT g y).2 k = q at k1 k2 k3 k4 k5 k6
        have hgc : gcI g ((k : Nat) : Int) ((y : Nat) : Int) = (g y).testBit k := by rw [gcI_gc hg, gc_nat]
        rw [hgc]
        have hm : sqm g (y + 1) (k + 1) (if (g y).testBit k = true then min q.1 (min (q.2.1 (k + 1)) (q.2.1 k)) + 1 else 0) := by
          refine sqm_step ?_ ?_ ?_
          · rw [k1]; exact h1 k (by omega)
          · rw [k5 (k + 1) (by omega)]; exact h1 (k + 1) hk
          · have := k2 k (by omega); rwa [if_pos (Nat.le_refl _)] at this
        generalize (if (g y).testBit k = true then min q.1 (min (q.2.1 (k + 1)) (q.2.1 k)) + 1 else 0) = v at hm
        dsimp only
        refine ⟨k5 (k + 1) (by omega), fun i hi => ?_, ?_, by omega, fun i hi => ?_, fun i s h4 h5 => ?_⟩
        · unfold va_up
          by_cases e : i = k + 1
          · subst e; rw [if_pos rfl, if_pos (Nat.le_refl _)]; exact hm
          · rw [if_neg e]
            have := k2 i hi
            by_cases c : i ≤ k
            · rw [if_pos c] at this; rw [if_pos (by omega)]; exact this
            · rw [if_neg c] at this; rw [if_neg (by omega)]; exact this
        · by_cases c : v ≤ q.2.2
          · rw [show max q.2.2 v = q.2.2 by omega]; exact k3
          · rw [show max q.2.2 v = v by omega]; exact Or.inr ⟨_, _, hm.1⟩
        · unfold va_up
          rw [if_neg (by omega)]; exact k5 i (by omega)
        · by_cases e : i = k + 1
          · subst e; have := hm.2 s h5; omega
          · have := k6 i s (by omega) h5; omega
    obtain ⟨k1, k2, k3, k4, k5, k6⟩ := key 24 (Nat.le_refl _)
    rw [sqT]
    refine ⟨fun i hi => ?_, k3, fun r i s h4 h5 h6 => ?_⟩
    · have := k2 i hi; rwa [if_pos hi] at this
    · by_cases e : r = y + 1
      · subst e; exact k6 i s h5 h6
      · have := h3 r i s (by omega) h5 h6; omega
theorem sq_law {g : Nat → Nat} (hg : gok g) : (sqT g 24).2 = larS g := by
  obtain ⟨h1, h2, h3⟩ := sq_inv hg 24 (Nat.le_refl _)
  refine isMx_u (μ := fun w h => min w h) ⟨fun x0 w y0 h hf hw hh => ?_, ?_⟩ (larS_mx hg)
  · have hin := fit_in hg hf hw hh
    refine h3 (y0 + min w h) (x0 + min w h) (min w h) (by omega) (by omega) ⟨by omega, by omega, fun x r q1 q2 q3 q4 => hf x r (by omega) (by omega) (by omega) (by omega)⟩
  · rcases h2 with z | ⟨y, i, z⟩
    · exact Or.inl z
    · by_cases c : (sqT g 24).2 = 0
      · exact Or.inl c
      · refine Or.inr ⟨_, _, _, _, z.2.2, by omega, by omega, ?_⟩
        dsimp only
        rw [Nat.min_self]
