set_option maxRecDepth 100000
/-! flooding: 26 rows, each step over sides, or over corners too -/
def nb (own below above : Nat) : Nat := own ||| own <<< 1 ||| own >>> 1 ||| below ||| above
def nr (c : Bool) (own below above : Nat) : Nat := if c = true then nb own below above ||| ((below ||| above) <<< 1 ||| (below ||| above) >>> 1) else nb own below above
def nB (P : Nat → Nat) (y : Nat) : Nat := if 0 < y then P (y - 1) else 0
def nA (P : Nat → Nat) (y : Nat) : Nat := if y < 25 then P (y + 1) else 0
def nrP (c : Bool) (P : Nat → Nat) (y : Nat) : Nat := nr c (P y) (nB P y) (nA P y)
/-- bits of one among the other's -/
def bs (a b : Nat) : Prop := ∀ i, a.testBit i = true → b.testBit i = true
theorem bs.rf (a : Nat) : bs a a := fun _ h => h
theorem bs.tr {a b c : Nat} (h : bs a b) (h2 : bs b c) : bs a c := fun i h3 => h2 i (h i h3)
theorem bs.lt {a b n : Nat} (h : bs a b) (hb : b < 2 ^ n) : a < 2 ^ n := by
  apply Nat.lt_pow_two_of_testBit
  intro i hi
  cases ha : a.testBit i with
  | false => rfl
  | true =>
    have := h i ha
    rw [Nat.testBit_lt_two_pow (Nat.lt_of_lt_of_le hb (Nat.pow_le_pow_right (by decide) hi))] at this
    cases this
theorem bs.eq {a b : Nat} (h : bs a b) (h2 : bs b a) : a = b := by
  apply Nat.eq_of_testBit_eq
  intro i
  cases ha : a.testBit i with
  | true => exact (h i ha).symm
  | false =>
    cases hb : b.testBit i with
    | false => rfl
    | true => rw [h2 i hb] at ha; cases ha
theorem bs.or {a b c d : Nat} (h : bs a c) (h2 : bs b d) : bs (a ||| b) (c ||| d) := fun i h3 => by
  rw [Nat.testBit_or, Bool.or_eq_true] at h3 ⊢
  exact h3.imp (h i) (h2 i)
theorem bs.and {a b c d : Nat} (h : bs a c) (h2 : bs b d) : bs (a &&& b) (c &&& d) := fun i h3 => by
  rw [Nat.testBit_and, Bool.and_eq_true] at h3 ⊢
  exact ⟨h i h3.1, h2 i h3.2⟩
theorem bs.shl {a c : Nat} (h : bs a c) (k : Nat) : bs (a <<< k) (c <<< k) := fun i h3 => by
  rw [Nat.testBit_shiftLeft, Bool.and_eq_true] at h3 ⊢
  exact ⟨h3.1, h _ h3.2⟩
theorem bs.shr {a c : Nat} (h : bs a c) (k : Nat) : bs (a >>> k) (c >>> k) := fun i h3 => by
  rw [Nat.testBit_shiftRight] at h3 ⊢
  exact h _ h3
theorem bs.ol (a b : Nat) : bs a (a ||| b) := fun i h => by rw [Nat.testBit_or, h]; rfl
theorem bs.al (a b : Nat) : bs (a &&& b) a := fun i h => by rw [Nat.testBit_and, Bool.and_eq_true] at h; exact h.1
theorem bs.ar (a b : Nat) : bs (a &&& b) b := fun i h => by rw [Nat.testBit_and, Bool.and_eq_true] at h; exact h.2
theorem bs.z (a : Nat) : bs 0 a := fun i h => by rw [Nat.zero_testBit] at h; cases h
theorem nb_mono {a b c a' b' c' : Nat} (h : bs a a') (h1 : bs b b') (h2 : bs c c') : bs (nb a b c) (nb a' b' c') := ((((h.or (h.shl 1)).or (h.shr 1)).or h1).or h2)
theorem nr_mono {k : Bool} {a b c a' b' c' : Nat} (h : bs a a') (h1 : bs b b') (h2 : bs c c') : bs (nr k a b c) (nr k a' b' c') := by
  unfold nr
  split
  · exact (nb_mono h h1 h2).or (((h1.or h2).shl 1).or ((h1.or h2).shr 1))
  · exact nb_mono h h1 h2
theorem nr_own (k : Bool) (a b c : Nat) : bs a (nr k a b c) := by
  have h : bs a (nb a b c) := ((((bs.ol a _).tr (bs.ol _ _)).tr (bs.ol _ _)).tr (bs.ol _ _))
  unfold nr
  split
  · exact h.tr (bs.ol _ _)
  · exact h
def fsub (P Q : Nat → Nat) : Prop := ∀ y, y < 26 → bs (P y) (Q y)
theorem nrP_mono {c : Bool} {P Q : Nat → Nat} (h : fsub P Q) {y : Nat} (hy : y < 26) : bs (nrP c P y) (nrP c Q y) := by
  refine nr_mono (h y hy) ?_ ?_
  · unfold nB; split
    · exact h _ (by omega)
    · exact bs.rf 0
  · unfold nA; split
    · exact h _ (by omega)
    · exact bs.rf 0
/-- closed: what is near and on the ground is in -/
def fcl (c : Bool) (T Q : Nat → Nat) : Prop := ∀ y, y < 26 → bs (nrP c Q y &&& T y) (Q y)
def ftot (P : Nat → Nat) : Nat := sm (fun y => pop 26 (P y)) 26
def FO (c : Bool) (T P0 P : Nat → Nat) : Prop := fsub P0 P ∧ fsub P T ∧ ∀ Q, fsub P0 Q → fcl c T Q → fsub P Q
def FI (c : Bool) (T P0 : Nat → Nat) (n0 k : Nat) (P : Nat → Nat) (m : Bool) : Prop :=
  FO c T P0 P ∧ (m = false → ∀ y, y < k → bs (nrP c P y &&& T y) (P y)) ∧ (m = false → ftot P = n0) ∧ (m = true → n0 < ftot P)
theorem pop_mono {a b : Nat} (h : bs a b) (k : Nat) : pop k a ≤ pop k b := by
  induction k with
  | zero => exact Nat.le_refl _
  | succ k ih =>
    unfold pop
    by_cases ha : a.testBit k = true
    · rw [if_pos ha, if_pos (h k ha)]; omega
    · rw [if_neg ha]; split <;> omega
theorem pop_lt {a b : Nat} (h : bs a b) (k : Nat) (hb : b < 2 ^ k) (hn : a ≠ b) : pop k a < pop k b := by
  have key : ∀ j, (∃ i, i < j ∧ a.testBit i = false ∧ b.testBit i = true) → pop j a < pop j b := by
    intro j
    induction j with
    | zero => rintro ⟨i, hi, -⟩; omega
    | succ j ih =>
      rintro ⟨i, hi, h1, h2⟩
      unfold pop
      by_cases hij : i = j
      · subst hij
        rw [if_neg (by rw [h1]; decide), if_pos h2]
        have := pop_mono h i
        omega
      · have := ih ⟨i, by omega, h1, h2⟩
        by_cases ha : a.testBit j = true
        · rw [if_pos ha, if_pos (h j ha)]; omega
        · rw [if_neg ha]; split <;> omega
  apply key
  apply Classical.byContradiction
  intro hc
  apply hn
  apply h.eq
  intro i hi
  cases ha : a.testBit i with
  | true => rfl
  | false =>
    exfalso
    apply hc
    refine ⟨i, ?_, ha, hi⟩
    apply Classical.byContradiction
    intro hk
    rw [Nat.testBit_lt_two_pow (Nat.lt_of_lt_of_le hb (Nat.pow_le_pow_right (by decide) (by omega)))] at hi
    cases hi
theorem sm_ext {f g : Nat → Nat} {k : Nat} (h : ∀ i, i < k → f i = g i) : sm f k = sm g k := by
  induction k with
  | zero => rfl
  | succ k ih => rw [sm, sm, ih (fun i hi => h i (by omega)), h k (by omega)]
theorem sm_up (f : Nat → Nat) (P : Nat → Nat) (k v : Nat) (n : Nat) (hk : k < n) : sm (fun y => f (va_up P k v y)) n + f (P k) = sm (fun y => f (P y)) n + f v := by
  induction n with
  | zero => omega
  | succ n ih =>
    rw [sm, sm]
    by_cases h : k = n
    · subst h
      rw [sm_ext (g := fun y => f (P y)) (fun i hi => by simp [va_up, show i ≠ k by omega])]
      simp only [va_up, if_true]
      omega
    · have := ih (by omega)
      simp only [va_up, if_neg (show n ≠ k by omega)] at *
      omega
theorem FI_0 {c : Bool} {T P0 P : Nat → Nat} (h : FO c T P0 P) : FI c T P0 (ftot P) 0 P false := ⟨h, fun _ y hy => absurd hy (by omega), fun _ => rfl, fun h => by cases h⟩
theorem FI_step {c : Bool} {T P0 P : Nat → Nat} {n0 k : Nat} {m : Bool} (hT : ∀ y, y < 26 → T y < 67108864) (h : FI c T P0 n0 k P m) (hk : k < 26) : FI c T P0 n0 (k + 1) (va_up P k (nrP c P k &&& T k)) (m || decide (¬ (nrP c P k &&& T k) = P k)) := by
  obtain ⟨⟨h1, h2, h3⟩, h4, h5, h6⟩ := h
  generalize hv : nrP c P k &&& T k = v
  have hsub : bs (P k) v := by
    intro i hi
    rw [← hv, Nat.testBit_and, Bool.and_eq_true]
    exact ⟨nr_own c _ _ _ i hi, h2 k hk i hi⟩
  have hvT : bs v (T k) := by rw [← hv]; exact bs.ar _ _
  have hFO : FO c T P0 (va_up P k v) := by
    refine ⟨fun y hy => ?_, fun y hy => ?_, fun Q hQ hc y hy => ?_⟩
    · unfold va_up; split
      · next e => subst e; exact (h1 y hy).tr hsub
      · exact h1 y hy
    · unfold va_up; split
      · next e => subst e; exact hvT
      · exact h2 y hy
    · unfold va_up; split
      · next e => subst e; rw [← hv]; exact ((nrP_mono (h3 Q hQ hc) hy).and (bs.rf _)).tr (hc y hy)
      · exact h3 Q hQ hc y hy
  by_cases he : v = P k
  · have e : va_up P k v = P := by
      funext y
      unfold va_up; split
      · next z => rw [z, he]
      · rfl
    rw [e] at hFO ⊢
    rw [decide_eq_false (not_not_intro he), Bool.or_false]
    refine ⟨hFO, fun hm y hy => ?_, h5, h6⟩
    by_cases hyk : y = k
    · subst hyk; rw [hv, he]; exact bs.rf _
    · exact h4 hm y (by omega)
  · rw [decide_eq_true he, Bool.or_true]
    refine ⟨hFO, fun h => (by cases h), fun h => (by cases h), fun _ => ?_⟩
    have hp : pop 26 (P k) < pop 26 v := pop_lt hsub 26 (hvT.lt (hT k hk)) (fun z => he z.symm)
    have hs := sm_up (pop 26) P k v 26 hk
    have : n0 ≤ ftot P := by
      cases m with
      | false => exact Nat.le_of_eq (h5 rfl).symm
      | true => exact Nat.le_of_lt (h6 rfl)
    unfold ftot at *
    omega
/-- the flood: the least closed set on the ground around what was begun -/
def FL (c : Bool) (T P0 P : Nat → Nat) : Prop := FO c T P0 P ∧ fcl c T P
theorem ftot_le (P : Nat → Nat) : ftot P ≤ 676 := sm_le (c := 26) (fun i => pop_le 26 _) 26
theorem FO_0 {c : Bool} {T P : Nat → Nat} (h : fsub P T) : FO c T P P := ⟨fun y _ => bs.rf _, h, fun Q hQ _ => hQ⟩
theorem FO_lt {c : Bool} {T P0 P : Nat → Nat} (hT : ∀ y, y < 26 → T y < 67108864) (h : FO c T P0 P) {y : Nat} (hy : y < 26) : P y < 67108864 := (h.2.1 y hy).lt (n := 26) (hT y hy)
theorem nBA_lt {P : Nat → Nat} (h : ∀ y, y < 26 → P y < 67108864) {y : Nat} (hy : y < 26) : nB P y ||| nA P y < 67108864 := by
  refine Nat.or_lt_two_pow (n := 26) ?_ ?_
  · unfold nB; split
    · exact h _ (by omega)
    · decide
  · unfold nA; split
    · exact h _ (by omega)
    · decide
/-- the ground inside a sheet, with a rim; and outside -/
def gins (g : Nat → Nat) (i : Nat) : Nat := gr g ((i : Int) - 1) <<< 1
def gout (g : Nat → Nat) (i : Nat) : Nat := pb_dif 67108863 (gr g ((i : Int) - 1) <<< 1)
theorem gins_lt {g : Nat → Nat} (h : gok g) (i : Nat) : gins g i < 67108864 := by
  have := gr_lt h ((i : Int) - 1)
  rw [gins, Nat.shiftLeft_eq]; omega
theorem gout_lt (g : Nat → Nat) (i : Nat) : gout g i < 67108864 := Nat.xor_lt_two_pow (n := 26) (by decide) (Nat.lt_of_le_of_lt Nat.and_le_left (by decide))
