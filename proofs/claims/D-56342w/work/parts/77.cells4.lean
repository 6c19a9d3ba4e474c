set_option maxRecDepth 100000
theorem dqg_le {m : Nat} (h : dqM m) (n : Nat) : dqC (dqg m n) ≤ dqC m ∧ dqS (dqg m n) ≤ dqS m := by
  unfold dqg
  split
  · exact ⟨Nat.le_refl _, Nat.le_refl _⟩
  · rcases h with rfl | rfl | rfl | rfl | rfl | rfl | rfl | rfl | rfl <;> decide
/-- boxes and their numbers -/
def Bxl (w : pb_W) (H : Heap) : List Nat → List Nat → Prop
  | [], [] => True
  | b :: R, s :: S => Bx w H b ((s : Nat) : Int) ∧ Bxl w H R S
  | _, _ => False
theorem Bx.ne {w : pb_W} {H : Heap} {b : Nat} {x : Int} (h : Bx w H b x) (hI : pb_I w) {z d e m k : Nat} {V : List Nat} (hD : Dq w H z d e m k V) : b ≠ d ∧ b ≠ e :=
  ⟨(pb_R.ty h).1.ne hI hD.2.2.1.r.ty.1 (by decide) (by decide) (by decide), (pb_R.ty h).1.ne hI hD.2.2.2.1.b.ty (by decide) (by decide) (by decide)⟩
theorem Bxl.cons {w : pb_W} {H : Heap} {v : Nat} {R S : List Nat} (h : Bxl w H (v :: R) S) : ∃ s S9, S = s :: S9 ∧ Bx w H v ((s : Nat) : Int) ∧ Bxl w H R S9 := by
  cases S with
  | nil => exact h.elim
  | cons s S9 => exact ⟨s, S9, rfl, h.1, h.2⟩
theorem Bxl.nil {w : pb_W} {H : Heap} {S : List Nat} (h : Bxl w H [] S) : S = [] := by
  cases S with
  | nil => rfl
  | cons s S9 => exact h.elim
theorem Bxl.map {w : pb_W} {H H1 : Heap} {R S : List Nat} (h : Bxl w H R S) (f : ∀ b ∈ R, ∀ x, Bx w H b x → Bx w H1 b x) : Bxl w H1 R S := by
  induction R generalizing S with
  | nil => rw [h.nil]; trivial
  | cons b R ih =>
    obtain ⟨s, S9, rfl, h1, h2⟩ := h.cons
    exact ⟨f b (List.mem_cons_self) _ h1, ih h2 (fun b9 h9 => f b9 (List.mem_cons_of_mem _ h9))⟩
theorem Bxl.keptD {w : pb_W} {H H1 : Heap} {R S : List Nat} (h : Bxl w H R S) (hI : pb_I w) {z d e m k : Nat} {V : List Nat} (hD : Dq w H z d e m k V) (f : pb_F (fun q => q ≠ d ∧ q ≠ e) H H1) : Bxl w H1 R S :=
  h.map fun b _ x hb => hb.kept (f.2 _ hb.lt (hb.ne hI hD))
theorem Bxl.keptN {w : pb_W} {H H1 : Heap} {R S : List Nat} (h : Bxl w H R S) (f : pb_F (fun q => q < H.size) H H1) : Bxl w H1 R S :=
  h.map fun b _ x hb => hb.kept (f.2 _ hb.lt hb.lt)
theorem Bxl.at {w : pb_W} {H : Heap} {R S : List Nat} (h : Bxl w H R S) {b : Nat} (hb : b ∈ R) : ∃ x, Bx w H b x := by
  induction R generalizing S with
  | nil => cases hb
  | cons b9 R ih =>
    obtain ⟨s, S9, rfl, h1, h2⟩ := h.cons
    rcases List.mem_cons.mp hb with e | e
    · rw [e]; exact ⟨_, h1⟩
    · exact ih h2 e
theorem Bxl.el {w : pb_W} {H : Heap} {R S : List Nat} (h : Bxl w H R S) (hI : pb_I w) {z d e m k : Nat} {V : List Nat} (hD : Dq w H z d e m k V) : ∀ x ∈ R.reverse, pb_El w H x ∧ x ≠ d ∧ x ≠ e := fun x hx => by
  obtain ⟨y, hy⟩ := h.at (List.mem_reverse.mp hx)
  exact ⟨hy.El, hy.ne hI hD⟩
/-! the greatest rectangle below a skyline -/
def lbL : List Nat → Nat
  | [] => 0
  | s :: _ => s + 1
def lbPop (hts : Nat → Nat) (x hg : Nat) : List Nat → Nat → List Nat × Nat
  | [], b => ([], b)
  | s :: S, b => if hg ≤ hts s then lbPop hts x hg S (max b (hts s * (x - lbL S))) else (s :: S, b)
def lbS (hts : Nat → Nat) : Nat → List Nat × Nat
  | 0 => ([], 0)
  | x + 1 => (x :: (lbPop hts x (if x = 24 then 0 else hts x) (lbS hts x).1 (lbS hts x).2).1, (lbPop hts x (if x = 24 then 0 else hts x) (lbS hts x).1 (lbS hts x).2).2)
theorem lbPop_n {hts : Nat → Nat} {x hg s b : Nat} {S : List Nat} (h : ¬ hg ≤ hts s) : lbPop hts x hg (s :: S) b = (s :: S, b) := by rw [lbPop, if_neg h]
theorem lbPop_y {hts : Nat → Nat} {x hg s b : Nat} {S : List Nat} (h : hg ≤ hts s) : lbPop hts x hg (s :: S) b = lbPop hts x hg S (max b (hts s * (x - lbL S))) := by rw [lbPop, if_pos h]
/-- heights of columns, row by row; the greatest rectangle so far -/
def lrH (g : Nat → Nat) : Nat → Nat → Nat
  | 0 => fun _ => 0
  | y + 1 => fun x => if x < 24 then (if gcI g ((x : Nat) : Int) ((y : Nat) : Int) = true then lrH g y x + 1 else 0) else 0
def lrM (g : Nat → Nat) : Nat → Nat
  | 0 => 0
  | y + 1 => max (lrM g y) (lbS (lrH g (y + 1)) 25).2
theorem lrH_le (g : Nat → Nat) (y x : Nat) : lrH g y x ≤ y := by
  induction y generalizing x with
  | zero => exact Nat.le_refl _
  | succ y ih =>
    have := ih x
    rw [lrH]; dsimp only; split
    · split <;> omega
    · omega
theorem lbPop_le {hts : Nat → Nat} {c : Nat} (hc : ∀ i, hts i ≤ c) (x hg : Nat) : ∀ (S : List Nat) (b : Nat), b ≤ c * 25 → x ≤ 25 → (lbPop hts x hg S b).2 ≤ c * 25 := by
  intro S
  induction S with
  | nil => intro b h _; exact h
  | cons s S ih =>
    intro b h hx
    rw [lbPop]; split
    · refine ih _ (Nat.max_le.mpr ⟨h, Nat.mul_le_mul (hc s) (by omega)⟩) hx
    · exact h
theorem lbS_le {hts : Nat → Nat} {c : Nat} (hc : ∀ i, hts i ≤ c) (x : Nat) (hx : x ≤ 25) : (lbS hts x).2 ≤ c * 25 := by
  induction x with
  | zero => exact Nat.zero_le _
  | succ x ih => exact lbPop_le hc x _ _ _ (ih (by omega)) (by omega)
theorem lrH_hi (g : Nat → Nat) (y : Nat) {x : Nat} (h : 24 ≤ x) : lrH g y x = 0 := by
  cases y with
  | zero => rfl
  | succ y => rw [lrH]; dsimp only; rw [if_neg (by omega)]
def lrK (g : Nat → Nat) (y k : Nat) : Nat → Nat := fun x => if x < k then lrH g (y + 1) x else lrH g y x
theorem lrK_0 (g : Nat → Nat) (y : Nat) : lrK g y 0 = lrH g y := by funext x; exact if_neg (by omega)
theorem lrK_24 (g : Nat → Nat) (y : Nat) : lrK g y 24 = lrH g (y + 1) := by
  funext x; unfold lrK; split
  · rfl
  · rw [lrH_hi g y (by omega), lrH_hi g (y + 1) (by omega)]
theorem lrK_step {g : Nat → Nat} {y k v : Nat} (hk : k < 24) (hv : v = if gcI g ((k : Nat) : Int) ((y : Nat) : Int) = true then lrH g y k + 1 else 0) : va_up (lrK g y k) k v = lrK g y (k + 1) :=
  up_fn (φ := lrH g (y + 1)) (lrH g y) (by rw [lrH]; dsimp only; rw [if_pos hk]; exact hv.symm)
/-- sides of squares -/
def sqQ (g : Nat → Nat) (y k : Nat) (q : Nat × (Nat → Nat) × Nat) : Nat × (Nat → Nat) × Nat :=
  (q.2.1 (k + 1), va_up q.2.1 (k + 1) (if gcI g ((k : Nat) : Int) ((y : Nat) : Int) = true then min q.1 (min (q.2.1 (k + 1)) (q.2.1 k)) + 1 else 0), max q.2.2 (if gcI g ((k : Nat) : Int) ((y : Nat) : Int) = true then min q.1 (min (q.2.1 (k + 1)) (q.2.1 k)) + 1 else 0))
def sqW (g : Nat → Nat) (y : Nat) (A : Nat → Nat) (b : Nat) : Nat → Nat × (Nat → Nat) × Nat
  | 0 => (0, A, b)
  | k + 1 => sqQ g y k (sqW g y A b k)
def sqT (g : Nat → Nat) : Nat → (Nat → Nat) × Nat
  | 0 => (fun _ => 0, 0)
  | y + 1 => (sqW g y (sqT g y).1 (sqT g y).2 24).2
theorem sq_row (g : Nat → Nat) {y b : Nat} {A : Nat → Nat} (hA : ∀ i, A i ≤ y) (hb : b ≤ y + 1) (k : Nat) : (sqW g y A b k).1 ≤ y ∧ (∀ i, k < i → (sqW g y A b k).2.1 i ≤ y) ∧ (∀ i, (sqW g y A b k).2.1 i ≤ y + 1) ∧ (sqW g y A b k).2.2 ≤ y + 1 := by
  induction k with
  | zero => exact ⟨Nat.zero_le _, fun i _ => hA i, fun i => Nat.le_succ_of_le (hA i), hb⟩
  | succ k ih =>
    obtain ⟨h1, h2, h3, h4⟩ := ih
    rw [sqW, sqQ]
    have hv : (if gcI g ((k : Nat) : Int) ((y : Nat) : Int) = true then min (sqW g y A b k).1 (min ((sqW g y A b k).2.1 (k + 1)) ((sqW g y A b k).2.1 k)) + 1 else 0) ≤ y + 1 := by split <;> omega
    generalize (if gcI g ((k : Nat) : Int) ((y : Nat) : Int) = true then min (sqW g y A b k).1 (min ((sqW g y A b k).2.1 (k + 1)) ((sqW g y A b k).2.1 k)) + 1 else 0) = v at hv
    refine ⟨h2 _ (by omega), fun i hi => ?_, fun i => ?_, ?_⟩
    · show va_up _ _ _ i ≤ y
      unfold va_up; rw [if_neg (by omega)]; exact h2 i (by omega)
    · show va_up _ _ _ i ≤ y + 1
      unfold va_up; split
      · exact hv
      · exact h3 i
    · show max _ _ ≤ y + 1
      omega
theorem sq_bd (g : Nat → Nat) (y : Nat) : (∀ i, (sqT g y).1 i ≤ y) ∧ (sqT g y).2 ≤ y := by
  induction y with
  | zero => exact ⟨fun i => Nat.le_refl _, Nat.le_refl _⟩
  | succ y ih =>
    obtain ⟨h1, h2, h3, h4⟩ := sq_row g (y := y) (b := (sqT g y).2) (A := (sqT g y).1) ih.1 (by omega) 24
    rw [sqT]; exact ⟨h3, h4⟩
