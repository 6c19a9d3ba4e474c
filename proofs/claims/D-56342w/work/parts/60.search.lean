set_option maxRecDepth 100000
/-! ranges of bands -/
theorem mul_rg {a b : Int} (ha : -200 ≤ a ∧ a ≤ 200) (hb : -200 ≤ b ∧ b ≤ 200) : -40000 ≤ a * b ∧ a * b ≤ 40000 := by
  have h1 : a.natAbs ≤ 200 := by omega
  have h2 : b.natAbs ≤ 200 := by omega
  have h3 : (a * b).natAbs ≤ 200 * 200 := by rw [Int.natAbs_mul]; exact Nat.mul_le_mul h1 h2
  omega
def meS (E : List Int) (h : Int) (s : Int × Int) : Nat → Int × Int
  | 0 => s
  | j + 1 => (max (meS E h s j).1 (h * (eE E (2 * j + 1) - eE E (2 * j))), max (meS E h s j).2 (min h (eE E (2 * j + 1) - eE E (2 * j))))
abbrev sSt : Type := List Int × Int × (Int × Int) × Bool
def seK (L : List Bnd) (f : Nat) (s0 : Int × Int) : Nat → sSt
  | 0 => (bE L f, 0, s0, true)
  | j + 1 =>
    let t := seK L f s0 j
    if t.2.2.2 = true ∧ (bd L (f + j)).1 = (bd L f).1 + t.2.1 then (cmE 1 t.1 (bE L (f + j)), t.2.1 + ((bd L (f + j)).2.1 - (bd L (f + j)).1), meS (cmE 1 t.1 (bE L (f + j))) (t.2.1 + ((bd L (f + j)).2.1 - (bd L (f + j)).1)) t.2.2.1 ((cmE 1 t.1 (bE L (f + j))).length / 2), true)
    else (t.1, t.2.1, t.2.2.1, false)
theorem seK_go {L : List Bnd} {f j : Nat} {s0 s : Int × Int} {E : List Int} {h : Int} (hk : seK L f s0 j = (E, h, s, true)) (hc : (bd L (f + j)).1 = (bd L f).1 + h) : seK L f s0 (j + 1) = (cmE 1 E (bE L (f + j)), h + ((bd L (f + j)).2.1 - (bd L (f + j)).1), meS (cmE 1 E (bE L (f + j))) (h + ((bd L (f + j)).2.1 - (bd L (f + j)).1)) s ((cmE 1 E (bE L (f + j))).length / 2), true) := by
  rw [seK, hk]
  exact if_pos ⟨rfl, hc⟩
theorem seK_stop {L : List Bnd} {f j : Nat} {s0 s : Int × Int} {E : List Int} {h : Int} (hk : seK L f s0 j = (E, h, s, true)) (hc : (bd L (f + j)).1 ≠ (bd L f).1 + h) (d : Nat) : seK L f s0 (j + 1 + d) = (E, h, s, false) := by
  induction d with
  | zero =>
    show seK L f s0 (j + 1) = _
    rw [seK, hk]
    exact if_neg (fun h => hc h.2)
  | succ d ih =>
    rw [← Nat.add_assoc, seK, ih]
    exact if_neg (fun h => Bool.false_ne_true h.1)
def rsF (L : List Bnd) : Nat → Int × Int
  | 0 => (0, 0)
  | k + 1 => (seK L k (rsF L k) (L.length - k)).2.2.1
theorem meS_rg {E : List Int} (hE : ∀ i, -100 ≤ eE E i ∧ eE E i ≤ 100) {h : Int} (hh : -200 ≤ h ∧ h ≤ 200) {s : Int × Int} (hs : (-100000 ≤ s.1 ∧ s.1 ≤ 100000) ∧ (-100000 ≤ s.2 ∧ s.2 ≤ 100000)) (j : Nat) : (-100000 ≤ (meS E h s j).1 ∧ (meS E h s j).1 ≤ 100000) ∧ (-100000 ≤ (meS E h s j).2 ∧ (meS E h s j).2 ≤ 100000) := by
  induction j with
  | zero => exact hs
  | succ j ih =>
    have h1 := hE (2 * j)
    have h2 := hE (2 * j + 1)
    have h3 : -40000 ≤ h * (eE E (2 * j + 1) - eE E (2 * j)) ∧ h * (eE E (2 * j + 1) - eE E (2 * j)) ≤ 40000 := mul_rg hh (by omega)
    rw [meS]
    dsimp only
    omega
