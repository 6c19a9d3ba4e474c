set_option maxRecDepth 100000
/-! what the methods of a region compute, band by band -/
abbrev bE (L : List Bnd) (k : Nat) : List Int := (bd L k).2.2
def leftF (L : List Bnd) : Nat → Int
  | 0 => 24
  | k + 1 => min (leftF L k) (eE (bE L k) (2 * 0))
def rightF (L : List Bnd) : Nat → Int
  | 0 => 0
  | k + 1 => max (rightF L k) (eE (bE L k) (2 * ((bE L k).length / 2 - 1) + 1))
def difE (E F : List Int) : Int := lenE (cmE 3 E F) ((cmE 3 E F).length / 2)
def perF (L : List Bnd) : Nat → Int
  | 0 => 0
  | k + 1 => ((perF L k + ((2 * ((bd L k).2.1 - (bd L k).1)) * (((bE L k).length / 2 : Nat) : Int))) + difE (bE L k) (rowL L ((bd L k).1 - 1))) + (if (rowL L (bd L k).2.1).length / 2 = 0 then lenE (bE L k) ((bE L k).length / 2) else 0)
def sarF (L : List Bnd) (y d : Int) : Nat → List Int
  | 0 => []
  | k + 1 => if (bd L k).1 - d ≤ y ∧ y < (bd L k).2.1 + d then cmE 0 (sarF L y d k) (bE L k) else sarF L y d k
def wdnF (L : List Bnd) (d : Int) : Nat → List Bnd
  | 0 => []
  | k + 1 => radd (wdnF L d k) (bd L k).1 (bd L k).2.1 (mvE (bE L k) (-d) d ((bE L k).length / 2))
def groF (W : List Bnd) (y d : Int) : Nat → List Bnd
  | 0 => []
  | n + 1 => radd (groF W y d n) (y + ((n : Nat) : Int)) (y + ((n : Nat) : Int) + 1) (sarF W (y + ((n : Nat) : Int)) d W.length)
def movF (L : List Bnd) (r u : Int) : Nat → List Bnd
  | 0 => []
  | k + 1 => radd (movF L r u k) ((bd L k).1 + u) ((bd L k).2.1 + u) (mvE (bE L k) r r ((bE L k).length / 2))
def mirF (L : List Bnd) : Nat → List Bnd
  | 0 => []
  | k + 1 => radd (mirF L k) (bd L k).1 (bd L k).2.1 (mrE (bE L k) ((bE L k).length / 2) ((bE L k).length / 2))
def trE (L : List Bnd) (x : Int) : Nat → List Int
  | 0 => []
  | k + 1 => if inE (bE L (L.length - 1 - k)) x ((bE L (L.length - 1 - k)).length / 2) = true then spadd (trE L x k) (24 - (bd L (L.length - 1 - k)).2.1) (24 - (bd L (L.length - 1 - k)).1) else trE L x k
def turF (L : List Bnd) : Nat → List Bnd
  | 0 => []
  | n + 1 => radd (turF L n) ((n : Nat) : Int) (((n + 1 : Nat) : Int)) (trE L ((n : Nat) : Int) L.length)
def recF (l b r t : Int) : List Bnd := radd [] b t (spadd [] l r)
theorem radd_n {L : List Bnd} {lo hi : Int} {E : List Int} {n : Nat} (h : L.length ≤ n) : (radd L lo hi E).length ≤ n + 1 := Nat.le_trans (radd_le _ _ _ _) (by omega)
theorem spadd_nil (l r : Int) : (spadd [] l r).length ≤ 2 := by
  unfold spadd
  split
  · decide
  · rw [if_neg (fun h => absurd h.1 (by decide))]; exact Nat.le_refl 2
theorem rad_nil (lo hi : Int) (E : List Int) : radc [] lo hi E ≤ 2 ∧ rads [] lo hi E ≤ 13 := by
  unfold radc rads
  constructor <;> split <;> decide
theorem spc_nil (l r : Int) : spc [] l r 8 = 0 ∧ sps [] l r 8 = 0 ∧ spm [] l r 8 = 8 := by
  unfold spc sps spm
  have h : ¬ spG [] l r 8 := fun h => absurd h.2.2 (by decide)
  rw [if_neg h, if_neg h, if_neg h]
  exact ⟨rfl, rfl, rfl⟩
theorem Sb.hi {w : pb_W} {H : Heap} {z a m : Nat} {E : List Int} (h : Sb w H z a E m) {z2 : Nat} (hz : z2 ≤ z) : Sp w H (fun q => z2 ≤ q) a E := h.sp.mono fun q _ hq => Nat.le_trans hz hq.1
