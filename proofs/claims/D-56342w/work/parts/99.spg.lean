set_option maxRecDepth 100000
/-! PLAIN LAWS: holes by outlines, second half -/
section HOL
variable {g : Nat → Nat}
theorem wnd_T (hg : gok g) {d : Nat × Nat × Nat} (hd : lok g d) {p q : Int × Int} (h : cn (gT g) false p q) : wnd g d p.1 p.2 = wnd g d q.1 q.2 :=
  h.2 (fun x => wnd g d p.1 p.2 = wnd g d x.1 x.2) rfl (fun a b qa ta tb hab => qa.trans (wnd_same hg hd hab ⟨fun _ => tb, fun _ => ta⟩))
/-- over a corner between two cells outside -/
theorem wnd_dia (hg : gok g) {d : Nat × Nat × Nat} (hd : lok g d) {x y : Int} : (¬ gT g (x, y) → ¬ gT g (x - 1, y - 1) → wnd g d x y = wnd g d (x - 1) (y - 1)) ∧ (¬ gT g (x - 1, y) → ¬ gT g (x, y - 1) → wnd g d (x - 1) y = wnd g d x (y - 1)) := by
  have ad : ∀ p1 p2 q1 q2 : Int, (p1 = q1 ∧ (p2 = q2 - 1 ∨ p2 = q2 + 1)) ∨ (p2 = q2 ∧ (p1 = q1 - 1 ∨ p1 = q1 + 1)) → adj false (p1, p2) (q1, q2) := by
    intro p1 p2 q1 q2 h
    rcases h with ⟨h1, h2⟩ | ⟨h1, h2⟩
    · exact ⟨by dsimp only; omega, by dsimp only; omega, Or.inr (Or.inl h1)⟩
    · exact ⟨by dsimp only; omega, by dsimp only; omega, Or.inr (Or.inr h1)⟩
  have same : ∀ p1 p2 q1 q2 : Int, (p1 = q1 ∧ (p2 = q2 - 1 ∨ p2 = q2 + 1)) ∨ (p2 = q2 ∧ (p1 = q1 - 1 ∨ p1 = q1 + 1)) → ¬ gT g (p1, p2) → ¬ gT g (q1, q2) → wnd g d p1 p2 = wnd g d q1 q2 :=
    fun p1 p2 q1 q2 h h1 h2 => wnd_same hg hd (ad p1 p2 q1 q2 h) ⟨fun z => absurd z h1, fun z => absurd z h2⟩
  -- a line of the board by its coordinates
  have lkn : ∀ (X Y : Int) (a : Nat), a < 4 → 0 ≤ X → X ≤ 24 → 0 ≤ Y → Y ≤ 24 → ldr g X Y a = true → lok g (X.toNat, Y.toNat, a) := by
    intro X Y a h1 h2 h3 h4 h5 h6
    refine ⟨by dsimp only; omega, by dsimp only; omega, h1, ?_⟩
    dsimp only
    rw [show ((X.toNat : Nat) : Int) = X by omega, show ((Y.toNat : Nat) : Int) = Y by omega]; exact h6
  constructor
  · intro h1 h2
    by_cases c1 : gT g (x - 1, y)
    · by_cases c2 : gT g (x, y - 1)
      · -- nw and se are inside: the line that comes from the left goes up
        have b1 := gT_in hg c1
        have b2 := gT_in hg c2
        dsimp only at b1 b2
        have hl : lok g ((x - 1).toNat, y.toNat, 0) := lkn (x - 1) y 0 (by decide) (by omega) (by omega) (by omega) (by omega) (by
          show (gc g (x - 1) y && !gc g (x - 1) (y - 1)) = true
          have e1 : gc g (x - 1) y = true := c1
          have e2 : gc g (x - 1) (y - 1) = false := by simpa [gT] using h2
          rw [e1, e2]; rfl)
        have hnx : nx g ((x - 1).toNat, y.toNat, 0) = (x.toNat, y.toNat, 1) := by
          show (nxx (x - 1).toNat 0, nxy y.toNat 0, nxw g (nxx (x - 1).toNat 0) (nxy y.toNat 0) 0) = _
          have e1 : nxx (x - 1).toNat 0 = x.toNat := by show (x - 1).toNat + 1 = x.toNat; omega
          have e2 : nxy y.toNat 0 = y.toNat := rfl
          rw [e1, e2]
          have e3 : ldr g ((x.toNat : Nat) : Int) ((y.toNat : Nat) : Int) 1 = true := by
            rw [show ((x.toNat : Nat) : Int) = x by omega, show ((y.toNat : Nat) : Int) = y by omega]
            show (gc g (x - 1) y && !gc g x y) = true
            have e5 : gc g (x - 1) y = true := c1
            have e6 : gc g x y = false := by simpa [gT] using h1
            rw [e5, e6]; rfl
          unfold nxw
          rw [show (0 + 1) % 4 = 1 by rfl, if_pos e3]
        have hiff := inL_nx hg hd hl
        rw [hnx] at hiff
        by_cases c : inL g d ((x - 1).toNat, y.toNat, 0)
        · have w1 := wnd_line hg hd c
          have w2 := wnd_line hg hd (hiff.mp c)
          have w1 : wnd g d (((x - 1).toNat : Nat) : Int) ((y.toNat : Nat) : Int) = wnd g d (((x - 1).toNat : Nat) : Int) (((y.toNat : Nat) : Int) - 1) + 1 := w1
          have w2 : wnd g d (((x.toNat : Nat) : Int) - 1) ((y.toNat : Nat) : Int) = wnd g d ((x.toNat : Nat) : Int) ((y.toNat : Nat) : Int) + 1 := w2
          rw [show (((x - 1).toNat : Nat) : Int) = x - 1 by omega, show ((y.toNat : Nat) : Int) = y by omega] at w1
          rw [show ((x.toNat : Nat) : Int) = x by omega, show ((y.toNat : Nat) : Int) = y by omega] at w2
          omega
        · have hcell : ∀ e, inL g d e → ∀ X Y : Int, ∀ a : Nat, a < 4 → lcl e = cpt X Y a → rcl e = cpt X Y ((a + 3) % 4) → e = (X.toNat, Y.toNat, a) ∨ True := fun _ _ _ _ _ _ _ _ => Or.inr trivial
          -- no line between nw and sw, nor between nw and ne
          have n1 : wnd g d (x - 1) y = wnd g d (x - 1) (y - 1) := by
            apply Classical.byContradiction
            intro z
            have h3 := wnd_y hg hd (x - 1) y
            by_cases z1 : nn g d (x - 1) y 0 = 0
            · obtain ⟨X, Y, eX, eY, hin⟩ := nn_out (show nn g d (x - 1 + 1) y 2 ≠ 0 by omega)
              have := (lok_lr (inL_lok hg hd hin)).2
              apply this
              have e : rcl (X, Y, 2) = (x - 1, y) := Prod.ext (by show ((X : Nat) : Int) - 1 = x - 1; omega) (by show ((Y : Nat) : Int) = y; omega)
              rw [e]; exact c1
            · obtain ⟨X, Y, eX, eY, hin⟩ := nn_out z1
              apply c
              rw [show (x - 1).toNat = X by omega, show y.toNat = Y by omega]; exact hin
          have n2 : wnd g d (x - 1) y = wnd g d x y := by
            apply Classical.byContradiction
            intro z
            have h3 := wnd_x g d x y
            by_cases z1 : nn g d x y 1 = 0
            · obtain ⟨X, Y, eX, eY, hin⟩ := nn_out (show nn g d x (y + 1) 3 ≠ 0 by omega)
              have := (lok_lr (inL_lok hg hd hin)).2
              apply this
              have e : rcl (X, Y, 3) = (x - 1, y) := Prod.ext (by show ((X : Nat) : Int) - 1 = x - 1; omega) (by show ((Y : Nat) : Int) - 1 = y; omega)
              rw [e]; exact c1
            · obtain ⟨X, Y, eX, eY, hin⟩ := nn_out z1
              apply c
              rw [hiff, show x.toNat = X by omega, show y.toNat = Y by omega]; exact hin
          omega
      · exact (same x y x (y - 1) (Or.inl ⟨rfl, Or.inr (by omega)⟩) h1 c2).trans (same x (y - 1) (x - 1) (y - 1) (Or.inr ⟨rfl, Or.inr (by omega)⟩) c2 h2)
    · exact (same x y (x - 1) y (Or.inr ⟨rfl, Or.inr (by omega)⟩) h1 c1).trans (same (x - 1) y (x - 1) (y - 1) (Or.inl ⟨rfl, Or.inr (by omega)⟩) c1 h2)
  · intro h1 h2
    by_cases c1 : gT g (x, y)
    · by_cases c2 : gT g (x - 1, y - 1)
      · -- ne and sw are inside: the line that comes from above goes to the right
        have b1 := gT_in hg c1
        have b2 := gT_in hg c2
        dsimp only at b1 b2
        have hl : lok g (x.toNat, (y + 1).toNat, 3) := lkn x (y + 1) 3 (by decide) (by omega) (by omega) (by omega) (by omega) (by
          show (gc g x (y + 1 - 1) && !gc g (x - 1) (y + 1 - 1)) = true
          rw [Int.add_sub_cancel]
          have e1 : gc g x y = true := c1
          have e2 : gc g (x - 1) y = false := by simpa [gT] using h1
          rw [e1, e2]; rfl)
        have hnx : nx g (x.toNat, (y + 1).toNat, 3) = (x.toNat, y.toNat, 0) := by
          show (nxx x.toNat 3, nxy (y + 1).toNat 3, nxw g (nxx x.toNat 3) (nxy (y + 1).toNat 3) 3) = _
          have e1 : nxx x.toNat 3 = x.toNat := rfl
          have e2 : nxy (y + 1).toNat 3 = y.toNat := by show (y + 1).toNat - 1 = y.toNat; omega
          rw [e1, e2]
          have e3 : ldr g ((x.toNat : Nat) : Int) ((y.toNat : Nat) : Int) 0 = true := by
            rw [show ((x.toNat : Nat) : Int) = x by omega, show ((y.toNat : Nat) : Int) = y by omega]
            show (gc g x y && !gc g x (y - 1)) = true
            have e5 : gc g x y = true := c1
            have e6 : gc g x (y - 1) = false := by simpa [gT] using h2
            rw [e5, e6]; rfl
          unfold nxw
          rw [show (3 + 1) % 4 = 0 by rfl, if_pos e3]
        have hiff := inL_nx hg hd hl
        rw [hnx] at hiff
        by_cases c : inL g d (x.toNat, (y + 1).toNat, 3)
        · have w1 := wnd_line hg hd c
          have w2 := wnd_line hg hd (hiff.mp c)
          have w1 : wnd g d ((x.toNat : Nat) : Int) ((((y + 1).toNat : Nat) : Int) - 1) = wnd g d (((x.toNat : Nat) : Int) - 1) ((((y + 1).toNat : Nat) : Int) - 1) + 1 := w1
          have w2 : wnd g d ((x.toNat : Nat) : Int) ((y.toNat : Nat) : Int) = wnd g d ((x.toNat : Nat) : Int) (((y.toNat : Nat) : Int) - 1) + 1 := w2
          rw [show ((x.toNat : Nat) : Int) = x by omega, show ((((y + 1).toNat : Nat) : Int) - 1) = y by omega] at w1
          rw [show ((x.toNat : Nat) : Int) = x by omega, show ((y.toNat : Nat) : Int) = y by omega] at w2
          omega
        · have n1 : wnd g d (x - 1) y = wnd g d x y := by
            apply Classical.byContradiction
            intro z
            have h3 := wnd_x g d x y
            by_cases z1 : nn g d x (y + 1) 3 = 0
            · obtain ⟨X, Y, eX, eY, hin⟩ := nn_out (show nn g d x y 1 ≠ 0 by omega)
              have := (lok_lr (inL_lok hg hd hin)).2
              apply this
              have e : rcl (X, Y, 1) = (x, y) := Prod.ext (by show ((X : Nat) : Int) = x; omega) (by show ((Y : Nat) : Int) = y; omega)
              rw [e]; exact c1
            · obtain ⟨X, Y, eX, eY, hin⟩ := nn_out z1
              apply c
              rw [show x.toNat = X by omega, show (y + 1).toNat = Y by omega]; exact hin
          have n2 : wnd g d x y = wnd g d x (y - 1) := by
            apply Classical.byContradiction
            intro z
            have h3 := wnd_y hg hd x y
            by_cases z1 : nn g d x y 0 = 0
            · obtain ⟨X, Y, eX, eY, hin⟩ := nn_out (show nn g d (x + 1) y 2 ≠ 0 by omega)
              have := (lok_lr (inL_lok hg hd hin)).2
              apply this
              have e : rcl (X, Y, 2) = (x, y) := Prod.ext (by show ((X : Nat) : Int) - 1 = x; omega) (by show ((Y : Nat) : Int) = y; omega)
              rw [e]; exact c1
            · obtain ⟨X, Y, eX, eY, hin⟩ := nn_out z1
              apply c
              rw [hiff, show x.toNat = X by omega, show y.toNat = Y by omega]; exact hin
          omega
      · exact (same (x - 1) y (x - 1) (y - 1) (Or.inl ⟨rfl, Or.inr (by omega)⟩) h1 c2).trans (same (x - 1) (y - 1) x (y - 1) (Or.inr ⟨rfl, Or.inl rfl⟩) c2 h2)
    · exact (same (x - 1) y x y (Or.inr ⟨rfl, Or.inl rfl⟩) h1 c1).trans (same x y x (y - 1) (Or.inl ⟨rfl, Or.inr (by omega)⟩) c1 h2)
theorem wnd_O (hg : gok g) {d : Nat × Nat × Nat} (hd : lok g d) {p q : Int × Int} (h : cn (OU g) true p q) : wnd g d p.1 p.2 = wnd g d q.1 q.2 := by
  refine h.2 (fun x => wnd g d p.1 p.2 = wnd g d x.1 x.2) rfl (fun a b qa ta tb hab => qa.trans ?_)
  have na := ((gout_bit hg a).mp ta).2
  have nb := ((gout_bit hg b).mp tb).2
  obtain ⟨a1, a2⟩ := a
  obtain ⟨b1, b2⟩ := b
  obtain ⟨h1, h2, -⟩ := hab
  dsimp only at h1 h2 ⊢
  by_cases e : a1 = b1 ∨ a2 = b2
  · exact wnd_same hg hd ⟨by dsimp only; omega, by dsimp only; omega, Or.inr e⟩ ⟨fun z => absurd z na, fun z => absurd z nb⟩
  · by_cases c : a1 = b1 + 1
    · by_cases c2 : a2 = b2 + 1
      · have := (wnd_dia hg hd (x := a1) (y := a2)).1 na (by rw [show a1 - 1 = b1 by omega, show a2 - 1 = b2 by omega]; exact nb)
        rwa [show a1 - 1 = b1 by omega, show a2 - 1 = b2 by omega] at this
      · have := (wnd_dia hg hd (x := a1) (y := b2)).2 (by rw [show a1 - 1 = b1 by omega]; exact nb) (by rw [show b2 - 1 = a2 by omega]; exact na)
        rw [show a1 - 1 = b1 by omega, show b2 - 1 = a2 by omega] at this
        exact this.symm
    · by_cases c2 : a2 = b2 + 1
      · have := (wnd_dia hg hd (x := b1) (y := a2)).2 (by rw [show b1 - 1 = a1 by omega]; exact na) (by rw [show a2 - 1 = b2 by omega]; exact nb)
        rwa [show b1 - 1 = a1 by omega, show a2 - 1 = b2 by omega] at this
      · have := (wnd_dia hg hd (x := b1) (y := b2)).1 nb (by rw [show b1 - 1 = a1 by omega, show b2 - 1 = a2 by omega]; exact na)
        rw [show b1 - 1 = a1 by omega, show b2 - 1 = a2 by omega] at this
        exact this.symm
/-- far off it is zero -/
theorem wnd_far (hg : gok g) {d : Nat × Nat × Nat} (hd : lok g d) (x y : Int) (h : 24 ≤ x ∨ 24 ≤ y ∨ y ≤ -1) : wnd g d x y = 0 := by
  refine zK_z (fun i hi => ?_)
  have hk := lok_Dk hg hd i
  generalize Dk g d i = e at hk
  obtain ⟨X, Y, a⟩ := e
  have h1 := lok_in hg hk
  have h2 := lok_pos hg hk
  have h3 := hk.1
  have h4 := hk.2.1
  dsimp only at h3 h4
  unfold om
  dsimp only
  by_cases c : x < ((X : Nat) : Int)
  · rw [if_pos c]
    by_cases c1 : a = 1
    · subst c1
      have h5 : Y + 1 ≤ 24 := h1.2.1
      rw [if_neg (by omega), if_neg (by omega)]
    · by_cases c3 : a = 3
      · have := h2.2 c3
        rw [if_neg (by omega), if_neg (by omega)]
      · rw [if_neg (by omega), if_neg (by omega)]
  · rw [if_neg c]
theorem lines_w (hg : gok g) {d e : Nat × Nat × Nat} (hd : lok g d) (he : inL g d e) : wnd g d (lcl e).1 (lcl e).2 = wnd g d (lcl d).1 (lcl d).2 ∧ wnd g d (rcl e).1 (rcl e).2 = wnd g d (lcl d).1 (lcl d).2 - 1 := by
  have h1 := wnd_line hg hd he
  obtain ⟨i, hi, rfl⟩ := he
  have h2 := wnd_T hg hd (Dk_cells hg hd i).1
  omega
/-- two values alone -/
theorem wnd_two (hg : gok g) {d : Nat × Nat × Nat} (hd : lok g d) : (wnd g d (lcl d).1 (lcl d).2 = 1 ∨ wnd g d (lcl d).1 (lcl d).2 = 0) ∧ ∀ x y, wnd g d x y = 0 ∨ wnd g d x y = wnd g d (lcl d).1 (lcl d).2 ∨ wnd g d x y = wnd g d (lcl d).1 (lcl d).2 - 1 := by
  generalize hR : wnd g d (lcl d).1 (lcl d).2 = R
  have key : ∀ y : Int, ∀ n : Nat, (wnd g d (24 - n) y = 0 ∨ wnd g d (24 - n) y = R ∨ wnd g d (24 - n) y = R - 1) ∧ (wnd g d (24 - n) y ≠ 0 → R = 0 ∨ R = 1) := by
    intro y n
    induction n with
    | zero =>
      have := wnd_far hg hd (24 - ((0 : Nat) : Int)) y (Or.inl (by omega))
      exact ⟨Or.inl this, fun z => absurd this z⟩
    | succ n ih =>
      obtain ⟨i1, i2⟩ := ih
      rw [show (24 : Int) - ((n + 1 : Nat) : Int) = (24 - (n : Int)) - 1 by omega]
      by_cases c : wnd g d (24 - (n : Int) - 1) y = wnd g d (24 - (n : Int)) y
      · rw [c]; exact ⟨i1, i2⟩
      · obtain ⟨e, e1, e2⟩ := wnd_hx c
        have hl := lines_w hg hd e1
        rw [hR] at hl
        rcases e2 with ⟨a, b⟩ | ⟨a, b⟩
        · rw [a, b] at hl
          dsimp only at hl
          refine ⟨Or.inr (Or.inl hl.1), fun _ => ?_⟩
          by_cases z : wnd g d (24 - (n : Int)) y = 0
          · right; omega
          · exact i2 z
        · rw [a, b] at hl
          dsimp only at hl
          refine ⟨Or.inr (Or.inr hl.2), fun _ => ?_⟩
          by_cases z : wnd g d (24 - (n : Int)) y = 0
          · left; omega
          · exact i2 z
  have all : ∀ x y, (wnd g d x y = 0 ∨ wnd g d x y = R ∨ wnd g d x y = R - 1) ∧ (wnd g d x y ≠ 0 → R = 0 ∨ R = 1) := by
    intro x y
    by_cases c : 24 ≤ x
    · have := wnd_far hg hd x y (Or.inl c); exact ⟨Or.inl this, fun z => absurd this z⟩
    · have := key y (24 - x).toNat
      rwa [show (24 : Int) - (((24 - x).toNat : Nat) : Int) = x by omega] at this
  refine ⟨?_, fun x y => (all x y).1⟩
  have := (all (lcl d).1 (lcl d).2).2
  rw [hR] at this
  by_cases z : R = 0
  · exact Or.inr z
  · exact (this z).symm
/-! the area is the sum of the winding numbers -/
theorem zN_zK (c : Int → Nat → Int) (k m : Nat) : zN (fun y => zK (c y) k) m = zK (fun i => zN (fun y => c y i) m) k := by
  induction k with
  | zero => exact zN_0 m
  | succ k ih =>
    have e : (fun y => zK (c y) (k + 1)) = fun y => zK (c y) k + c y k := rfl
    rw [e, zN_add, ih]; rfl
theorem zN_lt (X k : Nat) (v : Int) (hX : X ≤ k) : zN (fun x => if x < ((X : Nat) : Int) then v else 0) k = X * v := by
  have key : ∀ m, zN (fun x => if x < ((X : Nat) : Int) then v else 0) m = (min X m : Nat) * v := by
    intro m
    induction m with
    | zero => simp [zN]
    | succ m ih =>
      rw [zN, ih]
      by_cases c : m < X
      · rw [if_pos (by omega), show min X (m + 1) = m + 1 by omega, show min X m = m by omega, Int.natCast_add, Int.add_mul]; simp
      · rw [if_neg (by omega), show min X (m + 1) = X by omega, show min X m = X by omega, Int.add_zero]
  rw [key, show min X k = X by omega]
theorem zN_at (Y k : Nat) (v : Int) (hY : Y < k) : zN (fun y => if ((Y : Nat) : Int) = y then v else 0) k = v := by
  have key : ∀ m, zN (fun y => if ((Y : Nat) : Int) = y then v else 0) m = if Y < m then v else 0 := by
    intro m
    induction m with
    | zero => rfl
    | succ m ih =>
      rw [zN, ih]
      by_cases e : Y = m
      · subst e; rw [if_neg (by omega), if_pos rfl, if_pos (by omega)]; omega
      · rw [if_neg (by omega : ¬ ((Y : Nat) : Int) = ((m : Nat) : Int))]
        by_cases c : Y < m
        · rw [if_pos c, if_pos (by omega)]; omega
        · rw [if_neg c, if_neg (by omega)]; omega
  rw [key, if_pos hY]
theorem om_area (hg : gok g) {e : Nat × Nat × Nat} (he : lok g e) : zN (fun y => zN (fun x => om e x y) 24) 24 = if e.2.2 = 1 then ((e.1 : Nat) : Int) else if e.2.2 = 3 then -((e.1 : Nat) : Int) else 0 := by
  obtain ⟨X, Y, a⟩ := e
  have h1 := lok_in hg he
  have h2 := lok_pos hg he
  have h3 : X ≤ 24 := he.1
  have h4 : Y ≤ 24 := he.2.1
  have e1 : ∀ y : Int, zN (fun x => om (X, Y, a) x y) 24 = ((X : Nat) : Int) * (if a = 1 ∧ ((Y : Nat) : Int) = y then 1 else if a = 3 ∧ ((Y : Nat) : Int) = y + 1 then -1 else 0) := fun y => zN_lt X 24 _ h3
  have e2 : (fun y => zN (fun x => om (X, Y, a) x y) 24) = fun y => ((X : Nat) : Int) * (if a = 1 ∧ ((Y : Nat) : Int) = y then 1 else if a = 3 ∧ ((Y : Nat) : Int) = y + 1 then -1 else 0) := funext e1
  rw [e2]
  dsimp only
  by_cases c1 : a = 1
  · subst c1
    have h5 : Y + 1 ≤ 24 := h1.2.1
    rw [if_pos rfl]
    have e3 : (fun y : Int => ((X : Nat) : Int) * (if 1 = 1 ∧ ((Y : Nat) : Int) = y then 1 else if 1 = 3 ∧ ((Y : Nat) : Int) = y + 1 then -1 else 0)) = fun y => if ((Y : Nat) : Int) = y then ((X : Nat) : Int) else 0 := by
      funext y
      by_cases c : ((Y : Nat) : Int) = y
      · rw [if_pos ⟨rfl, c⟩, if_pos c, Int.mul_one]
      · rw [if_neg (fun z => c z.2), if_neg (fun z => absurd z.1 (by decide)), if_neg c, Int.mul_zero]
    rw [e3]
    exact zN_at Y 24 _ (by omega)
  · rw [if_neg c1]
    by_cases c3 : a = 3
    · subst c3
      have h5 := h2.2 rfl
      rw [if_pos rfl]
      have e3 : (fun y : Int => ((X : Nat) : Int) * (if 3 = 1 ∧ ((Y : Nat) : Int) = y then 1 else if 3 = 3 ∧ ((Y : Nat) : Int) = y + 1 then -1 else 0)) = fun y => if (((Y - 1 : Nat)) : Int) = y then -((X : Nat) : Int) else 0 := by
        funext y
        rw [if_neg (fun z => absurd z.1 (by decide))]
        by_cases c : ((Y : Nat) : Int) = y + 1
        · rw [if_pos ⟨rfl, c⟩, if_pos (by omega), Int.mul_neg, Int.mul_one]
        · rw [if_neg (fun z => c z.2), if_neg (by omega), Int.mul_zero]
      rw [e3]
      exact zN_at (Y - 1) 24 _ (by omega)
    · rw [if_neg c3]
      have e3 : (fun y : Int => ((X : Nat) : Int) * (if a = 1 ∧ ((Y : Nat) : Int) = y then 1 else if a = 3 ∧ ((Y : Nat) : Int) = y + 1 then -1 else 0)) = fun _ => 0 := by
        funext y
        rw [if_neg (fun z => c1 z.1), if_neg (fun z => c3 z.1), Int.mul_zero]
      rw [e3]; exact zN_0 24
theorem arK_z (d : Nat × Nat × Nat) (k : Nat) : arK g d k = zK (fun i => if (Dk g d i).2.2 = 1 then (((Dk g d i).1 : Nat) : Int) else if (Dk g d i).2.2 = 3 then -(((Dk g d i).1 : Nat) : Int) else 0) k := by
  induction k with
  | zero => rfl
  | succ k ih => rw [arK, zK, ih]
theorem area_w (hg : gok g) {d : Nat × Nat × Nat} (hd : lok g d) : arA g d = zN (fun y => zN (fun x => wnd g d x y) 24) 24 := by
  have e1 : (fun y => zN (fun x => wnd g d x y) 24) = fun y => zK (fun i => zN (fun x => om (Dk g d i) x y) 24) (per g d) := by
    funext y
    exact zN_zK (fun x i => om (Dk g d i) x y) (per g d) 24
  rw [e1, zN_zK (fun y i => zN (fun x => om (Dk g d i) x y) 24) (per g d) 24, arA, arK_z]
  exact zK_ext (fun i _ => (om_area hg (lok_Dk hg hd i)).symm)
theorem zN_nn {f : Int → Int} {k : Nat} (h : ∀ i : Nat, i < k → 0 ≤ f i) : 0 ≤ zN f k := by
  induction k with
  | zero => exact Int.le_refl _
  | succ k ih => rw [zN]; have := ih (fun i hi => h i (by omega)); have := h k (by omega); omega
theorem zN_np {f : Int → Int} {k i0 : Nat} (h : ∀ i : Nat, i < k → f i ≤ 0) (hi : i0 < k) : zN f k ≤ f i0 := by
  have np : ∀ m, m ≤ k → zN f m ≤ 0 := by
    intro m
    induction m with
    | zero => intro _; exact Int.le_refl _
    | succ m ih => intro hm; rw [zN]; have := ih (by omega); have := h m (by omega); omega
  have key : ∀ m, m ≤ k → i0 < m → zN f m ≤ f i0 := by
    intro m
    induction m with
    | zero => intro _ h; omega
    | succ m ih =>
      intro hm hlt
      rw [zN]
      by_cases e : m = i0
      · subst e; have := np m (by omega); omega
      · have := ih (by omega) (by omega); have := h m (by omega); omega
  exact key k (Nat.le_refl _) hi
/-- an outline with a negative area goes around a hole -/
theorem area_neg (hg : gok g) {d : Nat × Nat × Nat} (hd : lok g d) (h : arA g d < 0) : wnd g d (lcl d).1 (lcl d).2 = 0 := by
  obtain ⟨h1, h2⟩ := wnd_two hg hd
  rcases h1 with h1 | h1
  · exfalso
    rw [h1] at h2
    rw [area_w hg hd] at h
    have : 0 ≤ zN (fun y => zN (fun x => wnd g d x y) 24) 24 := zN_nn (fun y _ => zN_nn (fun x _ => by have := h2 ((x : Nat) : Int) ((y : Nat) : Int); omega))
    omega
  · exact h1
theorem neg_area (hg : gok g) {d : Nat × Nat × Nat} (hd : lok g d) (h : wnd g d (lcl d).1 (lcl d).2 = 0) {x y : Nat} (hx : x < 24) (hy : y < 24) (hw : wnd g d x y = -1) : arA g d < 0 := by
  obtain ⟨h1, h2⟩ := wnd_two hg hd
  rw [h] at h2
  rw [area_w hg hd]
  have all : ∀ x y, wnd g d x y ≤ 0 := fun x y => by have := h2 x y; omega
  have a := zN_np (f := fun x => wnd g d x ((y : Nat) : Int)) (k := 24) (i0 := x) (fun i _ => all _ _) hx
  have b := zN_np (f := fun y => zN (fun x => wnd g d x y) 24) (k := 24) (i0 := y) (fun i _ => by
    have := zN_np (f := fun x => wnd g d x ((i : Nat) : Int)) (k := 24) (i0 := 0) (fun j _ => all _ _) (by decide)
    have := all ((0 : Nat) : Int) ((i : Nat) : Int)
    (try dsimp only at *); omega) hy
  try dsimp only at a b
  omega
end HOL
