set_option maxRecDepth 100000
/-! what the board's checks say in the reference's words -/
theorem stA_iff {X Y : Nat → Int} {i : Nat} {x y : Int} : stA X Y i x y = true ↔ ¬ (x = X i ↔ y = Y i) := by
  unfold stA
  by_cases h1 : X i = x <;> by_cases h2 : Y i = y
  · rw [decide_eq_true h1, decide_eq_true h2]
    exact ⟨fun h => absurd h (by decide), fun h => absurd ⟨fun _ => h2.symm, fun _ => h1.symm⟩ h⟩
  · rw [decide_eq_true h1, decide_eq_false h2]
    exact ⟨fun _ h => h2 (h.mp h1.symm).symm, fun _ => rfl⟩
  · rw [decide_eq_false h1, decide_eq_true h2]
    exact ⟨fun _ h => h1 (h.mpr h2.symm).symm, fun _ => rfl⟩
  · rw [decide_eq_false h1, decide_eq_false h2]
    exact ⟨fun h => absurd h (by decide), fun h => absurd ⟨fun e => absurd e.symm h1, fun e => absurd e.symm h2⟩ h⟩
theorem ccA_iff {X Y : Nat → Int} {n : Nat} : ccA X Y n = true ↔ 4 ≤ n ∧ ¬ (X 0 = X (n - 1) ↔ Y 0 = Y (n - 1)) := by
  unfold ccA
  rw [Bool.and_eq_true, decide_eq_true_iff, stA_iff]
/-- an open path goes straight from point to point -/
def lnP (X Y : Nat → Int) (n : Nat) : Prop := ∀ j, j + 1 < n → (X j = X (j + 1) ↔ ¬ Y j = Y (j + 1))
theorem xr_iff {p q : Prop} (h : ¬ (p ↔ q)) : p ↔ ¬ q := by
  by_cases hp : p <;> by_cases hq : q
  · exact absurd ⟨fun _ => hq, fun _ => hp⟩ h
  · exact ⟨fun _ => hq, fun _ => hp⟩
  · exact ⟨fun e => absurd e hp, fun e => absurd hq e⟩
  · exact absurd ⟨fun e => absurd e hp, fun e => absurd e hq⟩ h
theorem lnP_1 (X Y : Nat → Int) : lnP X Y 1 := fun j h => by omega
theorem lnP_up {X Y : Nat → Int} {n : Nat} {x y : Int} (h : lnP X Y n) (hn : 1 ≤ n) (hs : stA X Y (n - 1) x y = true) : lnP (va_up X n x) (va_up Y n y) (n + 1) := by
  intro j hj
  unfold va_up
  by_cases c : j + 1 = n
  · have e : j = n - 1 := by omega
    rw [if_neg (show ¬ j = n from by omega), if_neg (show ¬ j = n from by omega), if_pos c, if_pos c, e]
    have h9 := xr_iff (stA_iff.mp hs)
    exact ⟨fun e1 e2 => (h9.mp e1.symm) e2.symm, fun e1 => (h9.mpr (fun e2 => e1 e2.symm)).symm⟩
  · rw [if_neg (show ¬ j = n from by omega), if_neg (show ¬ j = n from by omega), if_neg c, if_neg c]
    exact h j (by omega)
theorem lnP_st {X Y : Nat → Int} {n : Nat} (h : lnP X Y n) (hc : ccA X Y n = true) : stP X Y n := by
  obtain ⟨h4, hc⟩ := ccA_iff.mp hc
  intro j hj
  by_cases c : j + 1 = n
  · have e : j = n - 1 := by omega
    rw [if_pos c, e]
    have h9 := xr_iff hc
    exact ⟨fun e1 e2 => (h9.mp e1.symm) e2.symm, fun e1 => (h9.mpr (fun e2 => e1 e2.symm)).symm⟩
  · rw [if_neg c]
    exact h j (by omega)
