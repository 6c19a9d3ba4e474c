set_option maxRecDepth 100000
/-! PLAIN LAWS: holes by outlines. The winding number of an outline around a cell -/
def om (e : Nat × Nat × Nat) (x y : Int) : Int := if x < ((e.1 : Nat) : Int) then (if e.2.2 = 1 ∧ ((e.2.1 : Nat) : Int) = y then 1 else if e.2.2 = 3 ∧ ((e.2.1 : Nat) : Int) = y + 1 then -1 else 0) else 0
def nE (X Y : Int) (a : Nat) (e : Nat × Nat × Nat) : Int := if ((e.1 : Nat) : Int) = X ∧ ((e.2.1 : Nat) : Int) = Y ∧ e.2.2 = a then 1 else 0
def ph (x y : Int) (X Y : Nat) : Int := if x < ((X : Nat) : Int) ∧ ((Y : Nat) : Int) = y then 1 else 0
noncomputable def wnd (g : Nat → Nat) (d : Nat × Nat × Nat) (x y : Int) : Int := zK (fun i => om (Dk g d i) x y) (per g d)
noncomputable def nn (g : Nat → Nat) (d : Nat × Nat × Nat) (X Y : Int) (a : Nat) : Int := zK (fun i => nE X Y a (Dk g d i)) (per g d)
theorem om_x (e : Nat × Nat × Nat) (x y : Int) : om e (x - 1) y = om e x y + nE x y 1 e - nE x (y + 1) 3 e := by
  unfold om nE
  repeat' split
  all_goals omega
theorem om_y {g : Nat → Nat} (hg : gok g) {e : Nat × Nat × Nat} (he : lok g e) (x y : Int) : om e x y = om e x (y - 1) + (ph x y e.1 e.2.1 - ph x y (nxx e.1 e.2.2) (nxy e.2.1 e.2.2)) + nE x y 0 e - nE (x + 1) y 2 e := by
  obtain ⟨X, Y, a⟩ := e
  have h1 := lok_pos hg he
  have h2 := he.2.2.1
  dsimp only at h2
  have : a = 0 ∨ a = 1 ∨ a = 2 ∨ a = 3 := by omega
  rcases this with rfl | rfl | rfl | rfl
  · have q1 : nxx X 0 = X + 1 := rfl
    have q2 : nxy Y 0 = Y := rfl
    unfold om nE ph
    dsimp only
    rw [q1, q2]
    repeat' split
    all_goals omega
  · have q1 : nxx X 1 = X := rfl
    have q2 : nxy Y 1 = Y + 1 := rfl
    unfold om nE ph
    dsimp only
    rw [q1, q2]
    repeat' split
    all_goals omega
  · have q1 : nxx X 2 = X - 1 := rfl
    have q2 : nxy Y 2 = Y := rfl
    have q3 := h1.1 rfl
    unfold om nE ph
    dsimp only
    rw [q1, q2]
    repeat' split
    all_goals omega
  · have q1 : nxx X 3 = X := rfl
    have q2 : nxy Y 3 = Y - 1 := rfl
    have q3 := h1.2 rfl
    unfold om nE ph
    dsimp only
    rw [q1, q2]
    repeat' split
    all_goals omega
theorem zK_sub (c d : Nat → Int) (k : Nat) : zK (fun i => c i - d i) k = zK c k - zK d k := by
  induction k with
  | zero => rfl
  | succ k ih => rw [zK, zK, zK, ih]; omega
theorem zK_tel (f : Nat → Int) (k : Nat) : zK (fun i => f i - f (i + 1)) k = f 0 - f k := by
  induction k with
  | zero => rw [zK]; omega
  | succ k ih => rw [zK, ih]; omega
theorem wnd_x (g : Nat → Nat) (d : Nat × Nat × Nat) (x y : Int) : wnd g d (x - 1) y = wnd g d x y + nn g d x y 1 - nn g d x (y + 1) 3 := by
  unfold wnd nn
  rw [← zK_add, ← zK_sub]
  exact zK_ext (fun i _ => om_x _ x y)
theorem wnd_y {g : Nat → Nat} (hg : gok g) {d : Nat × Nat × Nat} (hd : lok g d) (x y : Int) : wnd g d x y = wnd g d x (y - 1) + nn g d x y 0 - nn g d (x + 1) y 2 := by
  obtain ⟨⟨p1, p2, p3⟩, p4⟩ := per_is hg hd
  have h := zK_tel (fun i => ph x y (Dk g d i).1 (Dk g d i).2.1) (per g d)
  have h0 : ph x y (Dk g d 0).1 (Dk g d 0).2.1 = ph x y (Dk g d (per g d)).1 (Dk g d (per g d)).2.1 := by rw [p2]; rfl
  try dsimp only at h
  rw [h0, Int.sub_self] at h
  unfold wnd nn
  have e : zK (fun i => om (Dk g d i) x y) (per g d) = zK (fun i => om (Dk g d i) x (y - 1) + (ph x y (Dk g d i).1 (Dk g d i).2.1 - ph x y (Dk g d (i + 1)).1 (Dk g d (i + 1)).2.1) + nE x y 0 (Dk g d i) - nE (x + 1) y 2 (Dk g d i)) (per g d) := zK_ext (fun i _ => om_y hg (lok_Dk hg hd i) x y)
  rw [e, zK_sub, zK_add, zK_add, h]; omega
/-- a line of the outline -/
def inL (g : Nat → Nat) (d e : Nat × Nat × Nat) : Prop := ∃ i, i < per g d ∧ Dk g d i = e
theorem inL_lok {g : Nat → Nat} (hg : gok g) {d e : Nat × Nat × Nat} (hd : lok g d) (h : inL g d e) : lok g e := by
  obtain ⟨i, hi, rfl⟩ := h
  exact lok_Dk hg hd i
theorem Dk_inj {g : Nat → Nat} (hg : gok g) {d : Nat × Nat × Nat} (hd : lok g d) : ∀ i j, i < j → j < per g d → Dk g d i ≠ Dk g d j := by
  obtain ⟨⟨p1, p2, p3⟩, p4⟩ := per_is hg hd
  intro i
  induction i with
  | zero =>
    intro j h1 h2 z
    exact p3 j (by omega) h2 z.symm
  | succ i ih =>
    intro j h1 h2 z
    cases j with
    | zero => omega
    | succ j =>
      have e := congrArg (pv g) z
      rw [pv_Dk hg hd, pv_Dk hg hd] at e
      exact ih j (by omega) (by omega) e
theorem zK_one {c : Nat → Int} {k i0 : Nat} (hi : i0 < k) (h1 : c i0 = 1) (h0 : ∀ i, i < k → i ≠ i0 → c i = 0) : zK c k = 1 := by
  have key : ∀ m, m ≤ k → zK c m = if i0 < m then 1 else 0 := by
    intro m
    induction m with
    | zero => intro _; rfl
    | succ m ih =>
      intro hm
      rw [zK, ih (by omega)]
      by_cases e : m = i0
      · subst e; rw [if_neg (by omega), if_pos (by omega), h1]; rfl
      · rw [h0 m (by omega) e]
        by_cases c9 : i0 < m
        · rw [if_pos c9, if_pos (by omega)]; rfl
        · rw [if_neg c9, if_neg (by omega)]; rfl
  rw [key k (Nat.le_refl _), if_pos hi]
theorem zK_z {c : Nat → Int} {k : Nat} (h0 : ∀ i, i < k → c i = 0) : zK c k = 0 := by
  induction k with
  | zero => rfl
  | succ k ih => rw [zK, ih (fun i hi => h0 i (by omega)), h0 k (by omega)]; rfl
theorem nn_in {g : Nat → Nat} (hg : gok g) {d : Nat × Nat × Nat} (hd : lok g d) {X Y a : Nat} (h : inL g d (X, Y, a)) : nn g d X Y a = 1 := by
  obtain ⟨i, hi, he⟩ := h
  refine zK_one hi ?_ (fun j hj hji => ?_)
  · unfold nE
    rw [he, if_pos ⟨rfl, rfl, rfl⟩]
  · unfold nE
    rw [if_neg]
    rintro ⟨z1, z2, z3⟩
    have : Dk g d j = Dk g d i := by
      rw [he]
      exact Prod.ext (by dsimp only; omega) (Prod.ext (by dsimp only; omega) z3)
    rcases Nat.lt_or_ge j i with c | c
    · exact Dk_inj hg hd j i c hi this
    · exact Dk_inj hg hd i j (by omega) hj this.symm
theorem nn_out {g : Nat → Nat} {d : Nat × Nat × Nat} {X Y : Int} {a : Nat} (h : nn g d X Y a ≠ 0) : ∃ x y : Nat, X = ((x : Nat) : Int) ∧ Y = ((y : Nat) : Int) ∧ inL g d (x, y, a) := by
  apply Classical.byContradiction
  intro hc
  apply h
  refine zK_z (fun i hi => ?_)
  unfold nE
  rw [if_neg]
  rintro ⟨z1, z2, z3⟩
  exact hc ⟨(Dk g d i).1, (Dk g d i).2.1, z1.symm, z2.symm, i, hi, Prod.ext rfl (Prod.ext rfl z3)⟩
/-- the cells left and right of a line -/
def lcl (e : Nat × Nat × Nat) : Int × Int := match e.2.2 with
  | 0 => (((e.1 : Nat) : Int), ((e.2.1 : Nat) : Int))
  | 1 => (((e.1 : Nat) : Int) - 1, ((e.2.1 : Nat) : Int))
  | 2 => (((e.1 : Nat) : Int) - 1, ((e.2.1 : Nat) : Int) - 1)
  | _ => (((e.1 : Nat) : Int), ((e.2.1 : Nat) : Int) - 1)
def rcl (e : Nat × Nat × Nat) : Int × Int := match e.2.2 with
  | 0 => (((e.1 : Nat) : Int), ((e.2.1 : Nat) : Int) - 1)
  | 1 => (((e.1 : Nat) : Int), ((e.2.1 : Nat) : Int))
  | 2 => (((e.1 : Nat) : Int) - 1, ((e.2.1 : Nat) : Int))
  | _ => (((e.1 : Nat) : Int) - 1, ((e.2.1 : Nat) : Int) - 1)
theorem lok_lr {g : Nat → Nat} {e : Nat × Nat × Nat} (h : lok g e) : gT g (lcl e) ∧ ¬ gT g (rcl e) := by
  obtain ⟨x, y, a⟩ := e
  obtain ⟨h1, h2, h3, h4⟩ := h
  dsimp only at h1 h2 h3 h4
  have : a = 0 ∨ a = 1 ∨ a = 2 ∨ a = 3 := by omega
  have key : ∀ p q : Bool, (p && !q) = true → p = true ∧ ¬ q = true := by decide
  rcases this with rfl | rfl | rfl | rfl
  · exact key _ _ h4
  · exact key _ _ h4
  · exact key _ _ h4
  · exact key _ _ h4
/-- where the winding number changes, a line of the outline lies between -/
theorem wnd_hx {g : Nat → Nat} {d : Nat × Nat × Nat} {x y : Int} (h : wnd g d (x - 1) y ≠ wnd g d x y) : ∃ e, inL g d e ∧ ((lcl e = (x - 1, y) ∧ rcl e = (x, y)) ∨ (lcl e = (x, y) ∧ rcl e = (x - 1, y))) := by
  have h1 := wnd_x g d x y
  by_cases c : nn g d x y 1 = 0
  · obtain ⟨X, Y, rfl, hY, hin⟩ := nn_out (show nn g d x (y + 1) 3 ≠ 0 by omega)
    refine ⟨_, hin, Or.inr ⟨?_, ?_⟩⟩
    · exact Prod.ext rfl (by show ((Y : Nat) : Int) - 1 = y; omega)
    · exact Prod.ext rfl (by show ((Y : Nat) : Int) - 1 = y; omega)
  · obtain ⟨X, Y, rfl, rfl, hin⟩ := nn_out c
    exact ⟨_, hin, Or.inl ⟨rfl, rfl⟩⟩
theorem wnd_hy {g : Nat → Nat} (hg : gok g) {d : Nat × Nat × Nat} (hd : lok g d) {x y : Int} (h : wnd g d x y ≠ wnd g d x (y - 1)) : ∃ e, inL g d e ∧ ((lcl e = (x, y) ∧ rcl e = (x, y - 1)) ∨ (lcl e = (x, y - 1) ∧ rcl e = (x, y))) := by
  have h1 := wnd_y hg hd x y
  by_cases c : nn g d x y 0 = 0
  · obtain ⟨X, Y, hX, rfl, hin⟩ := nn_out (show nn g d (x + 1) y 2 ≠ 0 by omega)
    refine ⟨_, hin, Or.inr ⟨?_, ?_⟩⟩
    · exact Prod.ext (by show ((X : Nat) : Int) - 1 = x; omega) rfl
    · exact Prod.ext (by show ((X : Nat) : Int) - 1 = x; omega) rfl
  · obtain ⟨X, Y, rfl, rfl, hin⟩ := nn_out c
    exact ⟨_, hin, Or.inl ⟨rfl, rfl⟩⟩
/-- neighbours of the same kind have the same winding number; so have neighbours with a line of another outline between -/
theorem wnd_adj {g : Nat → Nat} (hg : gok g) {d : Nat × Nat × Nat} (hd : lok g d) {p q : Int × Int} (hpq : adj false p q) (h : ¬ ∃ e, inL g d e ∧ ((lcl e = p ∧ rcl e = q) ∨ (lcl e = q ∧ rcl e = p))) : wnd g d p.1 p.2 = wnd g d q.1 q.2 := by
  obtain ⟨p1, p2⟩ := p
  obtain ⟨q1, q2⟩ := q
  obtain ⟨h1, h2, h3⟩ := hpq
  dsimp only at h1 h2 h3 ⊢
  rcases h3 with h3 | h3 | h3
  · cases h3
  · subst h3
    by_cases e : p2 = q2
    · rw [e]
    · apply Classical.byContradiction
      intro z
      by_cases c : q2 = p2 - 1
      · subst c
        obtain ⟨e9, a, b⟩ := wnd_hy hg hd z
        exact h ⟨e9, a, b⟩
      · have c2 : p2 = q2 - 1 := by omega
        subst c2
        obtain ⟨e9, a, b⟩ := wnd_hy hg hd (Ne.symm z)
        exact h ⟨e9, a, b.symm⟩
  · subst h3
    by_cases e : p1 = q1
    · rw [e]
    · apply Classical.byContradiction
      intro z
      by_cases c : p1 = q1 - 1
      · subst c
        obtain ⟨e9, a, b⟩ := wnd_hx z
        exact h ⟨e9, a, b⟩
      · have c2 : q1 = p1 - 1 := by omega
        subst c2
        obtain ⟨e9, a, b⟩ := wnd_hx (Ne.symm z)
        exact h ⟨e9, a, b.symm⟩
theorem wnd_same {g : Nat → Nat} (hg : gok g) {d : Nat × Nat × Nat} (hd : lok g d) {p q : Int × Int} (hpq : adj false p q) (h : gT g p ↔ gT g q) : wnd g d p.1 p.2 = wnd g d q.1 q.2 := by
  refine wnd_adj hg hd hpq ?_
  rintro ⟨e, h1, h2⟩
  obtain ⟨h3, h4⟩ := lok_lr (inL_lok hg hd h1)
  rcases h2 with ⟨a, b⟩ | ⟨a, b⟩
  · rw [a] at h3; rw [b] at h4; exact h4 (h.mp h3)
  · rw [a] at h3; rw [b] at h4; exact h4 (h.mpr h3)
/-- across a line of the outline it falls by one -/
theorem wnd_line {g : Nat → Nat} (hg : gok g) {d e : Nat × Nat × Nat} (hd : lok g d) (he : inL g d e) : wnd g d (lcl e).1 (lcl e).2 = wnd g d (rcl e).1 (rcl e).2 + 1 := by
  have hl := inL_lok hg hd he
  obtain ⟨l1, l2⟩ := lok_lr hl
  obtain ⟨x, y, a⟩ := e
  have ha := hl.2.2.1
  dsimp only at ha
  have h1 := nn_in hg hd he
  have : a = 0 ∨ a = 1 ∨ a = 2 ∨ a = 3 := by omega
  have no : ∀ {X Y : Int} {b : Nat}, (∀ x' y' : Nat, X = ((x' : Nat) : Int) → Y = ((y' : Nat) : Int) → lok g (x', y', b) → False) → nn g d X Y b = 0 := by
    intro X Y b hh
    apply Classical.byContradiction
    intro z
    obtain ⟨x', y', e1, e2, hin⟩ := nn_out z
    exact hh x' y' e1 e2 (inL_lok hg hd hin)
  rcases this with rfl | rfl | rfl | rfl
  · have h2 := wnd_y hg hd ((x : Nat) : Int) ((y : Nat) : Int)
    have h3 : nn g d (((x : Nat) : Int) + 1) ((y : Nat) : Int) 2 = 0 := no (fun x' y' e1 e2 hk => by
      have := (lok_lr hk).2
      apply this
      have e : rcl (x', y', 2) = lcl (x, y, 0) := Prod.ext (by show ((x' : Nat) : Int) - 1 = x; omega) (by show ((y' : Nat) : Int) = y; omega)
      rw [e]; exact l1)
    show wnd g d x y = wnd g d x (y - 1) + 1
    omega
  · have h2 := wnd_x g d ((x : Nat) : Int) ((y : Nat) : Int)
    have h3 : nn g d ((x : Nat) : Int) (((y : Nat) : Int) + 1) 3 = 0 := no (fun x' y' e1 e2 hk => by
      have := (lok_lr hk).2
      apply this
      have e : rcl (x', y', 3) = lcl (x, y, 1) := Prod.ext (by show ((x' : Nat) : Int) - 1 = (x : Int) - 1; omega) (by show ((y' : Nat) : Int) - 1 = y; omega)
      rw [e]; exact l1)
    show wnd g d (x - 1) y = wnd g d x y + 1
    omega
  · have h2 := wnd_y hg hd (((x : Nat) : Int) - 1) ((y : Nat) : Int)
    rw [Int.sub_add_cancel] at h2
    have h3 : nn g d (((x : Nat) : Int) - 1) ((y : Nat) : Int) 0 = 0 := no (fun x' y' e1 e2 hk => by
      have := (lok_lr hk).2
      apply this
      have e : rcl (x', y', 0) = lcl (x, y, 2) := Prod.ext (by show ((x' : Nat) : Int) = (x : Int) - 1; omega) (by show ((y' : Nat) : Int) - 1 = (y : Int) - 1; omega)
      rw [e]; exact l1)
    show wnd g d (x - 1) (y - 1) = wnd g d (x - 1) y + 1
    omega
  · have h2 := wnd_x g d ((x : Nat) : Int) (((y : Nat) : Int) - 1)
    rw [Int.sub_add_cancel] at h2
    have h3 : nn g d ((x : Nat) : Int) (((y : Nat) : Int) - 1) 1 = 0 := no (fun x' y' e1 e2 hk => by
      have := (lok_lr hk).2
      apply this
      have e : rcl (x', y', 1) = lcl (x, y, 3) := Prod.ext (by show ((x' : Nat) : Int) = (x : Int); omega) (by show ((y' : Nat) : Int) = (y : Int) - 1; omega)
      rw [e]; exact l1)
    show wnd g d x (y - 1) = wnd g d (x - 1) (y - 1) + 1
    omega
/-- the board's outside, with a ring -/
abbrev OU (g : Nat → Nat) : Int × Int → Prop := M26 (gout g)
theorem rcl_in {g : Nat → Nat} (hg : gok g) {e : Nat × Nat × Nat} (h : lok g e) : OU g (rcl e) := by
  obtain ⟨h1, h2⟩ := lok_lr h
  have hb := gT_in hg h1
  refine (gout_bit hg _).mpr ⟨?_, h2⟩
  obtain ⟨x, y, a⟩ := e
  have ha := h.2.2.1
  dsimp only at ha
  have : a = 0 ∨ a = 1 ∨ a = 2 ∨ a = 3 := by omega
  rcases this with rfl | rfl | rfl | rfl
  · have hb : (0 ≤ ((x : Nat) : Int) ∧ ((x : Nat) : Int) ≤ 23) ∧ 0 ≤ ((y : Nat) : Int) ∧ ((y : Nat) : Int) ≤ 23 := hb
    show (-1 ≤ ((x : Nat) : Int) ∧ ((x : Nat) : Int) ≤ 24) ∧ -1 ≤ ((y : Nat) : Int) - 1 ∧ ((y : Nat) : Int) - 1 ≤ 24
    omega
  · have hb : (0 ≤ ((x : Nat) : Int) - 1 ∧ ((x : Nat) : Int) - 1 ≤ 23) ∧ 0 ≤ ((y : Nat) : Int) ∧ ((y : Nat) : Int) ≤ 23 := hb
    show (-1 ≤ ((x : Nat) : Int) ∧ ((x : Nat) : Int) ≤ 24) ∧ -1 ≤ ((y : Nat) : Int) ∧ ((y : Nat) : Int) ≤ 24
    omega
  · have hb : (0 ≤ ((x : Nat) : Int) - 1 ∧ ((x : Nat) : Int) - 1 ≤ 23) ∧ 0 ≤ ((y : Nat) : Int) - 1 ∧ ((y : Nat) : Int) - 1 ≤ 23 := hb
    show (-1 ≤ ((x : Nat) : Int) - 1 ∧ ((x : Nat) : Int) - 1 ≤ 24) ∧ -1 ≤ ((y : Nat) : Int) ∧ ((y : Nat) : Int) ≤ 24
    omega
  · have hb : (0 ≤ ((x : Nat) : Int) ∧ ((x : Nat) : Int) ≤ 23) ∧ 0 ≤ ((y : Nat) : Int) - 1 ∧ ((y : Nat) : Int) - 1 ≤ 23 := hb
    show (-1 ≤ ((x : Nat) : Int) - 1 ∧ ((x : Nat) : Int) - 1 ≤ 24) ∧ -1 ≤ ((y : Nat) : Int) - 1 ∧ ((y : Nat) : Int) - 1 ≤ 24
    omega
/-- the cells around a point -/
def cpt (X Y : Int) : Nat → Int × Int
  | 0 => (X, Y)
  | 1 => (X - 1, Y)
  | 2 => (X - 1, Y - 1)
  | _ => (X, Y - 1)
theorem out_cells (x y : Nat) {a : Nat} (ha : a < 4) : lcl (x, y, a) = cpt x y a ∧ rcl (x, y, a) = cpt x y ((a + 3) % 4) := by
  have : a = 0 ∨ a = 1 ∨ a = 2 ∨ a = 3 := by omega
  rcases this with rfl | rfl | rfl | rfl <;> exact ⟨rfl, rfl⟩
theorem in_cells {g : Nat → Nat} (hg : gok g) {x y a : Nat} (h : lok g (x, y, a)) : lcl (x, y, a) = cpt (nxx x a : Nat) (nxy y a : Nat) ((a + 1) % 4) ∧ rcl (x, y, a) = cpt (nxx x a : Nat) (nxy y a : Nat) ((a + 2) % 4) := by
  have hp := lok_pos hg h
  have ha := h.2.2.1
  dsimp only at ha
  have : a = 0 ∨ a = 1 ∨ a = 2 ∨ a = 3 := by omega
  rcases this with rfl | rfl | rfl | rfl
  · refine ⟨Prod.ext ?_ ?_, Prod.ext ?_ ?_⟩
    · show ((x : Nat) : Int) = ((x + 1 : Nat) : Int) - 1; omega
    · rfl
    · show ((x : Nat) : Int) = ((x + 1 : Nat) : Int) - 1; omega
    · rfl
  · refine ⟨Prod.ext ?_ ?_, Prod.ext ?_ ?_⟩
    · rfl
    · show ((y : Nat) : Int) = ((y + 1 : Nat) : Int) - 1; omega
    · rfl
    · show ((y : Nat) : Int) = ((y + 1 : Nat) : Int) - 1; omega
  · have := hp.1 rfl
    refine ⟨Prod.ext ?_ ?_, Prod.ext ?_ ?_⟩
    · show ((x : Nat) : Int) - 1 = ((x - 1 : Nat) : Int); omega
    · rfl
    · show ((x : Nat) : Int) - 1 = ((x - 1 : Nat) : Int); omega
    · rfl
  · have := hp.2 rfl
    refine ⟨Prod.ext ?_ ?_, Prod.ext ?_ ?_⟩
    · rfl
    · show ((y : Nat) : Int) - 1 = ((y - 1 : Nat) : Int); omega
    · rfl
    · show ((y : Nat) : Int) - 1 = ((y - 1 : Nat) : Int); omega
theorem ldr_cpt (g : Nat → Nat) (X Y : Int) {b : Nat} (hb : b < 4) : ldr g X Y b = true ↔ gT g (cpt X Y b) ∧ ¬ gT g (cpt X Y ((b + 3) % 4)) := by
  have : b = 0 ∨ b = 1 ∨ b = 2 ∨ b = 3 := by omega
  have key : ∀ p q : Bool, (p && !q) = true ↔ p = true ∧ ¬ q = true := by decide
  rcases this with rfl | rfl | rfl | rfl
  · exact key _ _
  · exact key _ _
  · exact key _ _
  · exact key _ _
theorem cpt_adj (X Y : Int) {k : Nat} (hk : k < 4) : adj false (cpt X Y k) (cpt X Y ((k + 1) % 4)) := by
  have : k = 0 ∨ k = 1 ∨ k = 2 ∨ k = 3 := by omega
  rcases this with rfl | rfl | rfl | rfl
  · exact ⟨by show -1 ≤ X - (X - 1) ∧ X - (X - 1) ≤ 1; omega, by show -1 ≤ Y - Y ∧ Y - Y ≤ 1; omega, Or.inr (Or.inr rfl)⟩
  · exact ⟨by show -1 ≤ (X - 1) - (X - 1) ∧ (X - 1) - (X - 1) ≤ 1; omega, by show -1 ≤ Y - (Y - 1) ∧ Y - (Y - 1) ≤ 1; omega, Or.inr (Or.inl rfl)⟩
  · exact ⟨by show -1 ≤ (X - 1) - X ∧ (X - 1) - X ≤ 1; omega, by show -1 ≤ (Y - 1) - (Y - 1) ∧ (Y - 1) - (Y - 1) ≤ 1; omega, Or.inr (Or.inr rfl)⟩
  · exact ⟨by show -1 ≤ X - X ∧ X - X ≤ 1; omega, by show -1 ≤ (Y - 1) - Y ∧ (Y - 1) - Y ≤ 1; omega, Or.inr (Or.inl rfl)⟩
theorem cpt_adj8 (X Y : Int) (j k : Nat) : adj true (cpt X Y j) (cpt X Y k) := by
  have h : ∀ k, (cpt X Y k).1 = X ∨ (cpt X Y k).1 = X - 1 := fun k => by
    match k with
    | 0 => exact Or.inl rfl
    | 1 => exact Or.inr rfl
    | 2 => exact Or.inr rfl
    | _ + 3 => exact Or.inl rfl
  have h2 : ∀ k, (cpt X Y k).2 = Y ∨ (cpt X Y k).2 = Y - 1 := fun k => by
    match k with
    | 0 => exact Or.inl rfl
    | 1 => exact Or.inl rfl
    | 2 => exact Or.inr rfl
    | _ + 3 => exact Or.inr rfl
  have a := h j
  have b := h k
  have c := h2 j
  have d := h2 k
  exact ⟨by omega, by omega, Or.inl rfl⟩
/-- from a line to the next one: the cells on the left hang together, and those on the right over corners -/
theorem nx_cells {g : Nat → Nat} (hg : gok g) {e : Nat × Nat × Nat} (h : lok g e) : cn (gT g) false (lcl e) (lcl (nx g e)) ∧ cn (OU g) true (rcl e) (rcl (nx g e)) := by
  have hn := (lok_nx hg h).1
  obtain ⟨x, y, a⟩ := e
  obtain ⟨l1, l2⟩ := lok_lr h
  have hr := rcl_in hg h
  have hr2 := rcl_in hg hn
  obtain ⟨i1, i2⟩ := in_cells hg h
  have ha : a < 4 := h.2.2.1
  have hnx : nx g (x, y, a) = (nxx x a, nxy y a, nxw g (nxx x a) (nxy y a) a) := rfl
  rw [hnx] at hn hr2 ⊢
  generalize nxx x a = X at *
  generalize nxy y a = Y at *
  have hb := hn.2.2.1
  dsimp only at hb
  obtain ⟨o1, o2⟩ := out_cells X Y hb
  rw [o1, i1]
  have hrr : cn (OU g) true (rcl (x, y, a)) (rcl (X, Y, nxw g X Y a)) := by
    refine cn_st (cn_rf hr) hr2 ?_
    rw [i2, o2]; exact cpt_adj8 _ _ _ _
  refine ⟨?_, hrr⟩
  rw [i1] at l1
  unfold nxw
  by_cases c1 : ldr g X Y ((a + 1) % 4) = true
  · rw [if_pos c1]; exact cn_rf l1
  · rw [if_neg c1]
    have h4 := (ldr_cpt g X Y (b := (a + 1) % 4) (by omega))
    have hA : gT g (cpt X Y a) := by
      apply Classical.byContradiction
      intro z
      apply c1
      rw [h4, show ((a + 1) % 4 + 3) % 4 = a by omega]
      exact ⟨l1, z⟩
    have s1 : cn (gT g) false (cpt X Y ((a + 1) % 4)) (cpt X Y a) := cn_st (cn_rf l1) hA (adj_sym (cpt_adj _ _ ha))
    by_cases c2 : ldr g X Y a = true
    · rw [if_pos c2]; exact s1
    · rw [if_neg c2]
      have h5 := (ldr_cpt g X Y (b := a) ha)
      have hB : gT g (cpt X Y ((a + 3) % 4)) := by
        apply Classical.byContradiction
        intro z
        apply c2
        rw [h5]; exact ⟨hA, z⟩
      refine cn_st s1 hB (adj_sym ?_)
      have := cpt_adj (X : Int) (Y : Int) (k := (a + 3) % 4) (by omega)
      rwa [show ((a + 3) % 4 + 1) % 4 = a by omega] at this
theorem Dk_cells {g : Nat → Nat} (hg : gok g) {d : Nat × Nat × Nat} (hd : lok g d) (i : Nat) : cn (gT g) false (lcl d) (lcl (Dk g d i)) ∧ cn (OU g) true (rcl d) (rcl (Dk g d i)) := by
  induction i with
  | zero => exact ⟨cn_rf (lok_lr hd).1, cn_rf (rcl_in hg hd)⟩
  | succ i ih =>
    have := nx_cells hg (lok_Dk hg hd i)
    exact ⟨cn_tr ih.1 this.1, cn_tr ih.2 this.2⟩
/-- lines of an outline follow one another -/
theorem inL_nx {g : Nat → Nat} (hg : gok g) {d e : Nat × Nat × Nat} (hd : lok g d) (he : lok g e) : inL g d e ↔ inL g d (nx g e) := by
  obtain ⟨⟨p1, p2, p3⟩, p4⟩ := per_is hg hd
  constructor
  · rintro ⟨i, hi, rfl⟩
    by_cases c : i + 1 = per g d
    · refine ⟨0, by omega, ?_⟩
      show d = Dk g d (i + 1)
      rw [c, p2]
    · exact ⟨i + 1, by omega, rfl⟩
  · rintro ⟨i, hi, h⟩
    have h2 := congrArg (pv g) h
    rw [(lok_nx hg he).2.1] at h2
    cases i with
    | zero =>
      refine ⟨per g d - 1, by omega, ?_⟩
      have := pv_Dk hg hd (per g d - 1)
      rw [show per g d - 1 + 1 = per g d by omega, p2] at this
      rw [← this, ← h2]; rfl
    | succ i =>
      rw [pv_Dk hg hd] at h2
      exact ⟨i, by omega, h2⟩
