set_option maxRecDepth 100000
def spX (co : Bool) (bes : Nat) : Nat := if co = true then bes <<< 1 ||| bes >>> 1 else 0
theorem spC_eq {g wi : Nat → Nat} {co : Bool} {n bes x : Nat} (hb : bes = besG g n) (hx : x = spX co bes) : spC g wi co n = (((((g n ||| g n <<< 1) ||| g n >>> 1) ||| bes) ||| x) &&& wi n) ||| g n := by
  subst hb; subst hx; rfl
theorem spN_step (g wi : Nat → Nat) (co : Bool) (n : Nat) : va_up (spN g wi co n) n (spC g wi co n) = spN g wi co (n + 1) := up_fn (φ := fun y => spC g wi co y) g rfl
theorem spN_0 (g wi : Nat → Nat) (co : Bool) : spN g wi co 0 = g := by funext y; exact if_neg (Nat.not_lt_zero _)
/-- a spread, again and again -/
def tpI (wi : Nat → Nat) (co : Bool) (P : Nat → Nat) : Nat → Nat → Nat
  | 0 => P
  | n + 1 => spN (tpI wi co P n) wi co 24
theorem gok_tp {wi P : Nat → Nat} (hw : gok wi) (hP : gok P) (co : Bool) (n : Nat) : gok (tpI wi co P n) := by
  induction n with
  | zero => exact hP
  | succ n ih => exact gok_sp ih hw co (Nat.le_refl _)
def popG (g : Nat → Nat) : Nat := sm (fun y => pop 24 (g y)) 24
theorem popG_le (g : Nat → Nat) : popG g ≤ 576 := sm_le (c := 24) (fun i => pop_le 24 _) 24
theorem spB_f {g wi : Nat → Nat} {co : Bool} {n : Nat} (h : spB g wi co n = false) {y : Nat} (hy : y < n) : spC g wi co y = g y := by
  induction n with
  | zero => omega
  | succ n ih =>
    rw [spB, Bool.or_eq_false_iff] at h
    by_cases e : y = n
    · subst e
      by_cases h9 : spC g wi co y = g y
      · exact h9
      · have := of_decide_eq_false h.2; exact absurd h9 this
    · exact ih h.1 (by omega)
theorem spB_t {g wi : Nat → Nat} {co : Bool} {n : Nat} (h : spB g wi co n = true) : ∃ y, y < n ∧ spC g wi co y ≠ g y := by
  induction n with
  | zero => cases h
  | succ n ih =>
    rw [spB, Bool.or_eq_true] at h
    rcases h with h | h
    · obtain ⟨y, hy, hn⟩ := ih h; exact ⟨y, by omega, hn⟩
    · exact ⟨n, by omega, of_decide_eq_true h⟩
theorem sp_same {g wi : Nat → Nat} {co : Bool} (h : spB g wi co 24 = false) : spN g wi co 24 = g := by
  funext y
  unfold spN
  split
  · rename_i hy; exact spB_f h hy
  · rfl
theorem smM {f g : Nat → Nat} {k : Nat} (h : ∀ i, i < k → f i ≤ g i) : sm f k ≤ sm g k := by
  induction k with
  | zero => exact Nat.le_refl _
  | succ k ih => rw [sm, sm]; have := h k (by omega); have := ih (fun i hi => h i (by omega)); omega
theorem smL {f g : Nat → Nat} {k : Nat} (h : ∀ i, i < k → f i ≤ g i) {j : Nat} (hj : j < k) (hl : f j < g j) : sm f k < sm g k := by
  induction k with
  | zero => omega
  | succ k ih =>
    rw [sm, sm]
    have h1 := h k (by omega)
    by_cases e : j = k
    · subst e; have := smM (f := f) (g := g) (k := j) (fun i hi => h i (by omega)); omega
    · have := ih (fun i hi => h i (by omega)) (by omega); omega
theorem spC_sup (g wi : Nat → Nat) (co : Bool) (y : Nat) : bs (g y) (spC g wi co y) := fun i h => by
  rw [spC, Nat.testBit_or, h, Bool.or_true]
theorem pop_grow {g wi : Nat → Nat} {co : Bool} (hg : gok g) (hw : gok wi) (h : spB g wi co 24 = true) : popG g < popG (spN g wi co 24) := by
  obtain ⟨y, hy, hn⟩ := spB_t h
  have e : ∀ i, i < 24 → spN g wi co 24 i = spC g wi co i := fun i hi => if_pos hi
  unfold popG
  refine smL (fun i hi => ?_) hy ?_
  · rw [e i hi]; exact pop_mono (spC_sup g wi co i) 24
  · rw [e y hy]; exact pop_lt (spC_sup g wi co y) 24 (spC_lt hg hw co y) (Ne.symm hn)
theorem tp_pop {wi P : Nat → Nat} {co : Bool} (hw : gok wi) (hP : gok P) {n : Nat} (h : ∀ m, m < n → spB (tpI wi co P m) wi co 24 = true) : popG P + n ≤ popG (tpI wi co P n) := by
  induction n with
  | zero => rw [tpI, Nat.add_zero]; exact Nat.le_refl _
  | succ n ih =>
    have h1 := ih (fun m hm => h m (by omega))
    have h2 := pop_grow (gok_tp hw hP co n) hw (h n (by omega))
    rw [tpI]
    omega
theorem tp_stay {wi P : Nat → Nat} {co : Bool} {n : Nat} (h : spB (tpI wi co P n) wi co 24 = false) (d : Nat) : tpI wi co P (n + d) = tpI wi co P n := by
  induction d with
  | zero => rfl
  | succ d ih => rw [← Nat.add_assoc, tpI, ih, sp_same h]
/-- the whole part -/
def tpL (wi : Nat → Nat) (co : Bool) (P : Nat → Nat) : Nat → Nat := tpI wi co P 600
theorem tp_end {wi P : Nat → Nat} {co : Bool} (hw : gok wi) (hP : gok P) {n : Nat} (h : ∀ m, m < n → spB (tpI wi co P m) wi co 24 = true) (hf : spB (tpI wi co P n) wi co 24 = false) : tpI wi co P n = tpL wi co P ∧ n ≤ popG (tpL wi co P) := by
  have h1 := tp_pop hw hP h
  have h2 := popG_le (tpI wi co P n)
  have e : tpL wi co P = tpI wi co P n := by
    have := tp_stay hf (600 - n)
    rw [show n + (600 - n) = 600 by omega] at this
    unfold tpL
    exact this
  rw [e]
  exact ⟨rfl, by omega⟩
theorem pop_sup (g wi : Nat → Nat) (co : Bool) : popG g ≤ popG (spN g wi co 24) := by
  unfold popG
  refine smM fun i hi => ?_
  rw [show spN g wi co 24 i = spC g wi co i from if_pos hi]
  exact pop_mono (spC_sup g wi co i) 24
/-- while it grows, it has not reached the whole part -/
theorem tp_more {wi P : Nat → Nat} {co : Bool} (hw : gok wi) (hP : gok P) {n : Nat} (h : ∀ m, m < n → spB (tpI wi co P m) wi co 24 = true) : n ≤ popG (tpL wi co P) := by
  have hmono : ∀ d, popG (tpI wi co P n) ≤ popG (tpI wi co P (n + d)) := by
    intro d
    induction d with
    | zero => rw [Nat.add_zero]; exact Nat.le_refl _
    | succ d ih =>
      refine Nat.le_trans ih ?_
      rw [← Nat.add_assoc, tpI]
      exact pop_sup _ _ _
  have h1 := tp_pop hw hP h
  have h2 := popG_le (tpI wi co P n)
  have h3 := hmono (600 - n)
  rw [show n + (600 - n) = 600 by omega] at h3
  unfold tpL
  omega
/-- the seed: the cell (t, y) -/
def sdG (t y : Nat) : Nat → Nat := va_up (fun _ => 0) y (1 <<< t)
