set_option maxRecDepth 100000
/-! paths -/
def Pq (w : pb_W) (H : Heap) (P : Nat → Prop) (c : Nat) (X Y : Nat → Int) (n : Nat) : Prop := ∃ xs ys, P c ∧ P xs ∧ P ys ∧ pb_R w H c 10 [.ref xs, .ref ys, .int (iZ ((n : Nat) : Int))] ∧ pb_B w H xs 0 40 (pb_zf X) ∧ pb_B w H ys 0 40 (pb_zf Y) ∧ 1 ≤ n ∧ n ≤ 40 ∧ (∀ i, -1000 ≤ X i ∧ X i ≤ 1000) ∧ ∀ i, -1000 ≤ Y i ∧ Y i ≤ 1000
def Po (w : pb_W) (H : Heap) (c xs ys : Nat) (X Y : Nat → Int) (n : Nat) : Prop := pb_O w H c 10 [.ref xs, .ref ys, .int (iZ ((n : Nat) : Int))] ∧ pb_A w H xs 0 40 (pb_zf X) ∧ pb_A w H ys 0 40 (pb_zf Y) ∧ xs ≠ ys ∧ (∀ i, -1000 ≤ X i ∧ X i ≤ 1000) ∧ ∀ i, -1000 ≤ Y i ∧ Y i ≤ 1000
theorem Po.q {w : pb_W} {H : Heap} {c xs ys : Nat} {X Y : Nat → Int} {n : Nat} (h : Po w H c xs ys X Y n) (hn : 1 ≤ n ∧ n ≤ 40) : Pq w H (fun q => q < H.size) c X Y n :=
  ⟨xs, ys, h.1.lt, h.2.1.lt, h.2.2.1.lt, h.1.r, h.2.1.b, h.2.2.1.b, hn.1, hn.2, h.2.2.2.2⟩
theorem Pq.kept {w : pb_W} {H H1 : Heap} {P : Nat → Prop} {c : Nat} {X Y : Nat → Int} {n : Nat} (h : Pq w H P c X Y n) (f : pb_F P H H1) : Pq w H1 P c X Y n := by
  obtain ⟨xs, ys, h1, h2, h3, h4, h5, h6, h7⟩ := h
  exact ⟨xs, ys, h1, h2, h3, h4.kept (f.2 _ h4.lt h1), h5.kept (f.2 _ h5.lt h2), h6.kept (f.2 _ h6.lt h3), h7⟩
def stA (X Y : Nat → Int) (i : Nat) (x y : Int) : Bool := decide (X i = x) != decide (Y i = y)
def ccA (X Y : Nat → Int) (n : Nat) : Bool := decide (4 ≤ n) && stA X Y (n - 1) (X 0) (Y 0)
def rsA (Y : Nat → Int) (n i : Nat) (y : Int) : Int := if Y i ≤ y ∧ y < Y ((i + 1) % n) then 1 else if Y ((i + 1) % n) ≤ y ∧ y < Y i then -1 else 0
def wdA (X Y : Nat → Int) (n : Nat) (x y : Int) : Nat → Int
  | 0 => 0
  | k + 1 => wdA X Y n x y k + (if x < X k then rsA Y n k y else 0)
def fiA (odd : Bool) (v : Int) : Bool := if odd = true then decide (Int.tmod v 2 ≠ 0) else decide (v ≠ 0)
def rwE (X Y : Nat → Int) (n : Nat) (y : Int) (odd : Bool) : Nat → List Int
  | 0 => []
  | x + 1 => spadd (rwE X Y n y odd x) ((x : Nat) : Int) (if fiA odd (wdA X Y n ((x : Nat) : Int) y n) = true then ((x + 1 : Nat) : Int) else ((x : Nat) : Int))
def filF (X Y : Nat → Int) (n : Nat) (odd : Bool) : Nat → List Bnd
  | 0 => []
  | y + 1 => radd (filF X Y n odd y) ((y : Nat) : Int) ((y + 1 : Nat) : Int) (rwE X Y n ((y : Nat) : Int) odd 24)
theorem rwE_len (X Y : Nat → Int) (n : Nat) (y : Int) (odd : Bool) (k : Nat) : (rwE X Y n y odd k).length ≤ 2 * k := by
  induction k with
  | zero => exact Nat.le_refl _
  | succ k ih => rw [rwE]; exact Nat.le_trans (spadd_le _ _ _) (by omega)
theorem filF_len (X Y : Nat → Int) (n : Nat) (odd : Bool) (k : Nat) : (filF X Y n odd k).length ≤ k := by
  induction k with
  | zero => exact Nat.le_refl _
  | succ k ih => rw [filF]; exact radd_n ih
theorem rsA_rg (Y : Nat → Int) (n i : Nat) (y : Int) : -1 ≤ rsA Y n i y ∧ rsA Y n i y ≤ 1 := by
  unfold rsA
  split
  · decide
  · split <;> decide
theorem Pq.o {w : pb_W} {H : Heap} {P : Nat → Prop} {c : Nat} {X Y : Nat → Int} {n : Nat} (h : Pq w H P c X Y n) : ∃ fs, pb_R w H c 10 fs := by
  obtain ⟨xs, ys, h1, h2, h3, h4, h5⟩ := h
  exact ⟨_, h4⟩
