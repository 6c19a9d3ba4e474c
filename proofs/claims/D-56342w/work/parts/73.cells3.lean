set_option maxRecDepth 100000
theorem low_bit (v : Nat) : 0 < v → ∃ t, v.testBit t = true ∧ pb_dif (v - 1) v = 2 ^ t - 1 := by
  induction v using Nat.strongRecOn with
  | _ v ih =>
    intro h
    by_cases e : v % 2 = 1
    · refine ⟨0, by rw [Nat.testBit_zero, e]; rfl, ?_⟩
      apply Nat.eq_of_testBit_eq
      intro i
      rw [pb_dif_bit, Nat.testBit_two_pow_sub_one]
      cases i with
      | zero => rw [Nat.testBit_zero, show (v - 1) % 2 = 0 by omega]; rfl
      | succ i =>
        rw [Nat.testBit_succ, Nat.testBit_succ, show (v - 1) / 2 = v / 2 by omega, decide_eq_false (by omega)]
        cases (v / 2).testBit i <;> rfl
    · obtain ⟨t, h1, h2⟩ := ih (v / 2) (by omega) (by omega)
      refine ⟨t + 1, by rw [Nat.testBit_succ]; exact h1, ?_⟩
      apply Nat.eq_of_testBit_eq
      intro i
      rw [pb_dif_bit, Nat.testBit_two_pow_sub_one]
      cases i with
      | zero => rw [Nat.testBit_zero, Nat.testBit_zero, show (v - 1) % 2 = 1 by omega, show v % 2 = 0 by omega]; rfl
      | succ i =>
        rw [Nat.testBit_succ, Nat.testBit_succ, show (v - 1) / 2 = v / 2 - 1 by omega, ← pb_dif_bit, h2, Nat.testBit_two_pow_sub_one]
        exact decide_eq_decide.mpr (by omega)
def tzD (d : Nat) : Nat := if d = 0 then 0 else (tzQ d).2 + ((tzQ d).1 >>> 1)
theorem tzD_pow : ∀ t, t < 24 → tzD (2 ^ t - 1) = t := by decide +kernel
theorem tzN_bit {v : Nat} (h : 0 < v) (h2 : v < 16777216) : tzN v < 24 ∧ v.testBit (tzN v) = true ∧ pb_dif (v - 1) v = 2 ^ tzN v - 1 := by
  obtain ⟨t, h3, h4⟩ := low_bit v h
  have h5 : t < 24 := bit_lt (k := 24) h2 h3
  have e : tzN v = t := by
    show tzD (pb_dif (v - 1) v) = t
    rw [h4]; exact tzD_pow t h5
  rw [e]; exact ⟨h5, h3, h4⟩
def gsub (P Q : Nat → Nat) : Prop := ∀ y, bs (P y) (Q y)
theorem pop_dif {a b : Nat} (h : bs b a) (k : Nat) : pop k (pb_dif a b) + pop k b = pop k a := by
  induction k with
  | zero => rfl
  | succ k ih =>
    unfold pop
    rw [pb_dif_bit]
    have h1 := h k
    cases ha : a.testBit k <;> cases hb : b.testBit k
    · simpa using ih
    · rw [hb, ha] at h1; exact absurd (h1 rfl) (by decide)
    · simp only [Bool.not_false, Bool.and_self, if_true, if_neg Bool.false_ne_true]; omega
    · simp only [Bool.not_true, Bool.and_false, if_neg Bool.false_ne_true, if_true]; omega
theorem sm_add2 (f g : Nat → Nat) (k : Nat) : sm f k + sm g k = sm (fun i => f i + g i) k := by
  induction k with
  | zero => rfl
  | succ k ih => rw [sm, sm, sm, ← ih]; omega
theorem popG_rm {g P : Nat → Nat} (h : gsub P g) : popG (rmG g P 24) + popG P = popG g := by
  unfold popG
  rw [sm_add2]
  refine sm_ext (fun i hi => ?_)
  rw [show rmG g P 24 i = pb_dif (g i) (P i) from if_pos hi]
  exact pop_dif (h i) 24
theorem spN_sub {g wi : Nat → Nat} {co : Bool} (h : gsub g wi) : gsub (spN g wi co 24) wi := by
  intro y
  unfold spN
  split
  · intro i hi
    rw [spC, Nat.testBit_or, Bool.or_eq_true, Nat.testBit_and, Bool.and_eq_true] at hi
    rcases hi with hi | hi
    · exact hi.2
    · exact h y i hi
  · exact h y
theorem spN_sup (g wi : Nat → Nat) (co : Bool) : gsub g (spN g wi co 24) := by
  intro y
  unfold spN
  split
  · exact spC_sup g wi co y
  · exact bs.rf _
theorem tp_sub {wi P : Nat → Nat} {co : Bool} (h : gsub P wi) (n : Nat) : gsub (tpI wi co P n) wi := by
  induction n with
  | zero => exact h
  | succ n ih => exact spN_sub ih
theorem tp_sup (wi P : Nat → Nat) (co : Bool) (n : Nat) : gsub P (tpI wi co P n) := by
  induction n with
  | zero => exact fun y => bs.rf _
  | succ n ih => exact fun y => (ih y).tr (spN_sup _ wi co y)
theorem sd_sub {g : Nat → Nat} {t y : Nat} (h : (g y).testBit t = true) : gsub (sdG t y) g := by
  intro y9 i hi
  unfold sdG va_up at hi
  split at hi
  · rename_i e; subst e
    rw [Nat.shiftLeft_eq, Nat.one_mul, Nat.testBit_two_pow] at hi
    rw [← of_decide_eq_true hi]; exact h
  · rw [Nat.zero_testBit] at hi; cases hi
theorem sd_ok {t y : Nat} (ht : t < 24) (hy : y < 24) : gok (sdG t y) := gok_up gok_0 hy (by rw [Nat.shiftLeft_eq, Nat.one_mul]; exact Nat.pow_lt_pow_right (by decide) ht)
theorem tpL_ok {g : Nat → Nat} (hg : gok g) {t y : Nat} (ht : t < 24) (hy : y < 24) (co : Bool) : gok (tpL g co (sdG t y)) := by unfold tpL; exact gok_tp hg (sd_ok ht hy) co 600
theorem tpL_sup (wi P : Nat → Nat) (co : Bool) : gsub P (tpL wi co P) := by unfold tpL; exact tp_sup wi P co 600
theorem tpL_sub {wi P : Nat → Nat} {co : Bool} (h : gsub P wi) : gsub (tpL wi co P) wi := by unfold tpL; exact tp_sub h 600
theorem sd_bit (t y : Nat) : (sdG t y y).testBit t = true := by
  unfold sdG; rw [va_up_at, Nat.shiftLeft_eq, Nat.one_mul, Nat.testBit_two_pow]; exact decide_eq_true rfl
theorem popG_pos {g : Nat → Nat} (hg : gok g) {t y : Nat} (hy : y < 24) (h1 : (g y).testBit t = true) : 0 < popG g := by
  have h2 : g y ≠ 0 := fun e => by rw [e, Nat.zero_testBit] at h1; cases h1
  have h3 : 0 < pop 24 (g y) := by
    have := pop_lt (bs.z _) 24 (hg.1 y) (Ne.symm h2)
    rw [pop_zero] at this; exact this
  have := smL (f := fun _ => 0) (g := fun y => pop 24 (g y)) (k := 24) (fun i _ => Nat.zero_le _) (j := y) hy h3
  rw [sm_zero (fun _ _ => rfl)] at this
  exact this
theorem tpL_pos {g : Nat → Nat} (hg : gok g) {t y : Nat} (ht : t < 24) (hy : y < 24) (co : Bool) : 0 < popG (tpL g co (sdG t y)) :=
  popG_pos (tpL_ok hg ht hy co) hy (tpL_sup g (sdG t y) co y t (sd_bit t y))
/-- the first row that is not empty, from y on -/
def fyF (g : Nat → Nat) : Nat → Nat → Nat
  | 0, y => y
  | d + 1, y => if g y = 0 then fyF g d (y + 1) else y
def fyG (g : Nat → Nat) : Nat := fyF g 24 0
theorem fyF_eq {g : Nat → Nat} {d a y : Nat} (h : a ≤ y) (h2 : y < a + d) (hz : ∀ i, a ≤ i → i < y → g i = 0) (hn : g y ≠ 0) : fyF g d a = y := by
  induction d generalizing a with
  | zero => omega
  | succ d ih =>
    by_cases e : a = y
    · subst e; rw [fyF, if_neg hn]
    · rw [fyF, if_pos (hz a (Nat.le_refl _) (by omega))]
      exact ih (by omega) (by omega) (fun i h3 h4 => hz i (by omega) h4)
theorem fyF_z {g : Nat → Nat} {d a : Nat} (hz : ∀ i, a ≤ i → i < a + d → g i = 0) : fyF g d a = a + d := by
  induction d generalizing a with
  | zero => rfl
  | succ d ih =>
    rw [fyF, if_pos (hz a (Nat.le_refl _) (by omega)), ih (fun i h3 h4 => hz i (by omega) (by omega))]
    omega
theorem fyG_eq {g : Nat → Nat} {y : Nat} (hy : y < 24) (hz : ∀ i, i < y → g i = 0) (hn : g y ≠ 0) : fyG g = y := fyF_eq (Nat.zero_le _) (by omega) (fun i _ h => hz i h) hn
theorem fyG_z {g : Nat → Nat} (hz : ∀ i, i < 24 → g i = 0) : fyG g = 24 := fyF_z (fun i _ h => hz i (by omega))
/-- the part that is taken next -/
def cpG (g : Nat → Nat) (co : Bool) : Nat → Nat := tpL g co (sdG (tzN (g (fyG g))) (fyG g))
def ctG (g : Nat → Nat) (co : Bool) : Nat → Nat → Nat
  | 0 => g
  | n + 1 => if fyG (ctG g co n) < 24 then rmG (ctG g co n) (cpG (ctG g co n) co) 24 else ctG g co n
/-- how many parts -/
def ctP (g : Nat → Nat) (co : Bool) : Nat → Nat
  | 0 => 0
  | n + 1 => ctP g co n + if fyG (ctG g co n) < 24 then (if (co && rimG (cpG (ctG g co n) co) 24) = true then 0 else 1) else 0
/-- the parts that do not reach the rim -/
def inP (g : Nat → Nat) : Nat → Nat → Nat
  | 0 => fun _ => 0
  | n + 1 => if fyG (ctG g true n) < 24 ∧ rimG (cpG (ctG g true n) true) 24 = false then fun y => if y < 24 then inP g n y ||| cpG (ctG g true n) true y else 0 else inP g n
theorem ct_stay {g : Nat → Nat} {co : Bool} {n : Nat} (h : ∀ i, i < 24 → ctG g co n i = 0) (d : Nat) : ctG g co (n + d) = ctG g co n ∧ ctP g co (n + d) = ctP g co n := by
  induction d with
  | zero => exact ⟨rfl, rfl⟩
  | succ d ih =>
    have e : ¬ fyG (ctG g co (n + d)) < 24 := by rw [ih.1, fyG_z h]; omega
    rw [← Nat.add_assoc, ctG, ctP, if_neg e, if_neg e]
    exact ih
theorem in_stay {g : Nat → Nat} {n : Nat} (h : ∀ i, i < 24 → ctG g true n i = 0) (d : Nat) : inP g (n + d) = inP g n := by
  induction d with
  | zero => rfl
  | succ d ih =>
    have e : ¬ fyG (ctG g true (n + d)) < 24 := by rw [(ct_stay h d).1, fyG_z h]; omega
    rw [← Nat.add_assoc, inP, if_neg (fun h9 => e h9.1)]
    exact ih
theorem ct_step {g : Nat → Nat} {co : Bool} {n y : Nat} (hy : y < 24) (hz : ∀ i, i < y → ctG g co n i = 0) (hn : ctG g co n y ≠ 0) : ctG g co (n + 1) = rmG (ctG g co n) (tpL (ctG g co n) co (sdG (tzN (ctG g co n y)) y)) 24 := by
  have e := fyG_eq hy hz hn
  rw [ctG, if_pos (by omega), cpG, e]
theorem cp_eq {g : Nat → Nat} {co : Bool} {y : Nat} (hy : y < 24) (hz : ∀ i, i < y → g i = 0) (hn : g y ≠ 0) : cpG g co = tpL g co (sdG (tzN (g y)) y) := by
  rw [cpG, fyG_eq hy hz hn]
theorem rm_z {g P : Nat → Nat} {k i : Nat} (h : g i = 0) : rmG g P k i = 0 := by
  unfold rmG; split
  · rw [h]; exact Nat.le_zero.mp (pb_dif_le 0 _)
  · exact h
theorem cp_bud {g : Nat → Nat} {co : Bool} {y : Nat} (hg : gok g) (hy : y < 24) (hn : g y ≠ 0) : 0 < popG (tpL g co (sdG (tzN (g y)) y)) ∧ popG (rmG g (tpL g co (sdG (tzN (g y)) y)) 24) + popG (tpL g co (sdG (tzN (g y)) y)) = popG g ∧ gok (tpL g co (sdG (tzN (g y)) y)) := by
  obtain ⟨h1, h2, -⟩ := tzN_bit (v := g y) (by omega) (hg.1 y)
  exact ⟨tpL_pos hg h1 hy co, popG_rm (tpL_sub (sd_sub h2)), tpL_ok hg h1 hy co⟩
theorem in_step {g : Nat → Nat} {n y : Nat} (hy : y < 24) (hz : ∀ i, i < y → ctG g true n i = 0) (hn : ctG g true n y ≠ 0) (hi : ∀ i, 24 ≤ i → inP g n i = 0) : inP g (n + 1) = fun i => if i < (if rimG (tpL (ctG g true n) true (sdG (tzN (ctG g true n y)) y)) 24 = true then 0 else 24) then inP g n i ||| tpL (ctG g true n) true (sdG (tzN (ctG g true n y)) y) i else inP g n i := by
  have e := fyG_eq hy hz hn
  rw [inP, cp_eq hy hz hn]
  cases hr : rimG (tpL (ctG g true n) true (sdG (tzN (ctG g true n y)) y)) 24
  · rw [if_pos ⟨by omega, rfl⟩]
    funext i
    rw [if_neg Bool.false_ne_true]
    split
    · rfl
    · rw [hi i (by omega)]
  · rw [if_neg (fun h9 => by cases h9.2)]
    funext i
    rw [if_pos rfl, if_neg (Nat.not_lt_zero _)]
theorem in_hi (g : Nat → Nat) (n i : Nat) (h : 24 ≤ i) : inP g n i = 0 := by
  induction n with
  | zero => rfl
  | succ n ih =>
    rw [inP]; split
    · exact if_neg (by omega)
    · exact ih
theorem cP_step {g : Nat → Nat} {co : Bool} {n y : Nat} (hy : y < 24) (hz : ∀ i, i < y → ctG g co n i = 0) (hn : ctG g co n y ≠ 0) : ctP g co (n + 1) = ctP g co n + if (co && rimG (tpL (ctG g co n) co (sdG (tzN (ctG g co n y)) y)) 24) = true then 0 else 1 := by
  have e := fyG_eq hy hz hn
  rw [ctP, if_pos (by omega), cp_eq hy hz hn]
theorem cP_end {g : Nat → Nat} {co : Bool} {n : Nat} (h : ∀ i, i < 24 → ctG g co n i = 0) (hn : n ≤ 600) : ctP g co 600 = ctP g co n := by
  have := (ct_stay h (600 - n)).2
  rw [show n + (600 - n) = 600 by omega] at this
  exact this
theorem in_end {g : Nat → Nat} {n : Nat} (h : ∀ i, i < 24 → ctG g true n i = 0) (hn : n ≤ 600) : inP g 600 = inP g n := by
  have := in_stay h (600 - n)
  rw [show n + (600 - n) = 600 by omega] at this
  exact this
theorem gok_or {A P : Nat → Nat} (hA : gok A) (hP : gok P) (k : Nat) : gok (fun i => if i < k then A i ||| P i else A i) := by
  refine ⟨fun i => ?_, fun i hi => ?_⟩
  · dsimp only; split
    · exact or_lt24 (hA.1 i) (hP.1 i)
    · exact hA.1 i
  · dsimp only; split
    · rw [hA.2 i hi, hP.2 i hi]; rfl
    · exact hA.2 i hi
theorem in_ok {g : Nat → Nat} {n y : Nat} (hg : gok (ctG g true n)) (hy : y < 24) (hz : ∀ i, i < y → ctG g true n i = 0) (hn : ctG g true n y ≠ 0) (hi : gok (inP g n)) : gok (inP g (n + 1)) := by
  rw [in_step hy hz hn (fun i h9 => in_hi g n i h9)]
  exact gok_or hi (cp_bud hg hy hn).2.2 _
