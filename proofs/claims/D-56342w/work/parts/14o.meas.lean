set_option maxRecDepth 100000
/-! measures of grids -/
def permV (g : Nat → Nat) : Nat := sm (fun y => pop 32 (g y ^^^ gr g ((y : Int) - 1)) + pop 32 (g y ^^^ g y <<< 1)) 25
def bandV (g : Nat → Nat) : Nat := sm (fun y => if g y ≠ 0 ∧ g y ≠ gr g ((y : Int) - 1) then 1 else 0) 24
def rectV (g : Nat → Nat) : Nat := sm (fun y => if g y = gr g ((y : Int) - 1) then 0 else pop 32 (pb_dif (g y) (g y <<< 1))) 24
theorem xor_lt31 {a b : Nat} (ha : a < 2147483648) (hb : b < 2147483648) : a ^^^ b < 2147483648 := Nat.xor_lt_two_pow (n := 31) ha hb
theorem dif_lt31 {a b : Nat} (ha : a < 2147483648) : pb_dif a b < 2147483648 := Nat.xor_lt_two_pow (n := 31) ha (Nat.lt_of_le_of_lt Nat.and_le_left ha)
theorem shl1_lt {a : Nat} (h : a < 16777216) : a <<< 1 < 2147483648 := by rw [Nat.shiftLeft_eq]; omega
/-- all below k -/
def allB (p : Nat → Bool) : Nat → Bool
  | 0 => true
  | k + 1 => allB p k && p k
theorem allB_f {p : Nat → Bool} {k n : Nat} (h : allB p k = false) (hk : k ≤ n) : allB p n = false := by
  induction n with
  | zero => rwa [show k = 0 by omega] at h
  | succ n ih =>
    by_cases hkn : k = n + 1
    · rwa [hkn] at h
    · rw [allB, ih (by omega), Bool.false_and]
theorem allB_iff {p : Nat → Bool} {k : Nat} : allB p k = true ↔ ∀ i, i < k → p i = true := by
  induction k with
  | zero => simp [allB]
  | succ k ih =>
    rw [allB, Bool.and_eq_true, ih]
    constructor
    · rintro ⟨h1, h2⟩ i hi
      by_cases h : i = k
      · rw [h]; exact h2
      · exact h1 i (by omega)
    · intro h
      exact ⟨fun i hi => h i (by omega), h k (by omega)⟩
/-- all rows upon one another -/
def shdw (g : Nat → Nat) : Nat → Nat
  | 0 => 0
  | k + 1 => shdw g k ||| g k
theorem shdw_lt {g : Nat → Nat} (h : gok g) (k : Nat) : shdw g k < 16777216 := by
  induction k with
  | zero => exact (by decide : 0 < 16777216)
  | succ k ih => exact or_lt24 ih (h.1 k)
theorem shdw_bit (g : Nat → Nat) (k i : Nat) : (shdw g k).testBit i = true ↔ ∃ y, y < k ∧ (g y).testBit i = true := by
  induction k with
  | zero => simp [shdw]
  | succ k ih =>
    rw [shdw, Nat.testBit_or, Bool.or_eq_true, ih]
    constructor
    · rintro (⟨y, h1, h2⟩ | h)
      · exact ⟨y, by omega, h2⟩
      · exact ⟨k, by omega, h⟩
    · rintro ⟨y, h1, h2⟩
      by_cases h : y = k
      · subst h; exact Or.inr h2
      · exact Or.inl ⟨y, by omega, h2⟩
theorem sm_zero {f : Nat → Nat} {k : Nat} (h : ∀ i, i < k → f i = 0) : sm f k = 0 := by
  induction k with
  | zero => rfl
  | succ k ih => rw [sm, ih (fun i hi => h i (by omega)), h k (by omega)]
theorem sm_pos {f : Nat → Nat} {k : Nat} (h : sm f k ≠ 0) : ∃ i, i < k ∧ f i ≠ 0 := by
  apply Classical.byContradiction
  intro hc
  exact h (sm_zero (fun i hi => Classical.byContradiction fun z => hc ⟨i, hi, z⟩))
theorem cnt_row {g : Nat → Nat} (h : cnt g ≠ 0) : ∃ y, y < 24 ∧ g y ≠ 0 := by
  obtain ⟨y, hy, h2⟩ := sm_pos h
  exact ⟨y, hy, fun z => h2 (by rw [z, pop_zero])⟩
theorem bit_of_ne {n : Nat} (h : n ≠ 0) : ∃ i, n.testBit i = true := by
  apply Classical.byContradiction
  intro hc
  apply h
  apply Nat.eq_of_testBit_eq
  intro i
  rw [Nat.zero_testBit]
  cases hb : n.testBit i with
  | false => rfl
  | true => exact absurd ⟨i, hb⟩ hc
theorem bit_lt {n k i : Nat} (h : n < 2 ^ k) (hb : n.testBit i = true) : i < k := by
  apply Classical.byContradiction
  intro hc
  rw [Nat.testBit_lt_two_pow (Nat.lt_of_lt_of_le h (Nat.pow_le_pow_right (by decide) (by omega)))] at hb
  cases hb
theorem shade_bit {g : Nat → Nat} (hg : gok g) (h : cnt g ≠ 0) : ∃ x, x < 24 ∧ (shdw g 24).testBit x = true := by
  obtain ⟨y, hy, h2⟩ := cnt_row h
  obtain ⟨i, hi⟩ := bit_of_ne h2
  exact ⟨i, bit_lt (k := 24) (hg.1 y) hi, (shdw_bit g 24 i).mpr ⟨y, hy, hi⟩⟩
theorem and1_bit (n k : Nat) : ((n >>> k) &&& 1 : Nat) = 0 ↔ n.testBit k = false := by
  rw [pb_bit]; cases n.testBit k <;> simp
/-- runs in a row -/
def wit (l : Nat) : Nat → Nat
  | 0 => l
  | n + 1 => wit l n &&& wit l n <<< 1
def widF (l : Nat) : Nat := sm (fun m => if wit l m ≠ 0 then 1 else 0) 32
theorem wit_lt {l : Nat} (h : l < 2147483648) (n : Nat) : wit l n < 2147483648 := by
  induction n with
  | zero => exact h
  | succ n ih => exact Nat.lt_of_le_of_lt Nat.and_le_left ih
theorem wit_bit (l n i : Nat) : (wit l n).testBit i = true ↔ n ≤ i ∧ ∀ j, j ≤ n → l.testBit (i - j) = true := by
  induction n generalizing i with
  | zero =>
    simp only [wit]
    constructor
    · intro h; exact ⟨Nat.zero_le _, fun j hj => by rw [show j = 0 by omega]; exact h⟩
    · intro h; exact h.2 0 (Nat.le_refl _)
  | succ n ih =>
    rw [wit, Nat.testBit_and, Nat.testBit_shiftLeft, Bool.and_eq_true, Bool.and_eq_true, decide_eq_true_eq, ih, ih]
    constructor
    · rintro ⟨⟨h1, h2⟩, h3, h4, h5⟩
      refine ⟨by omega, fun j hj => ?_⟩
      by_cases h : j ≤ n
      · exact h2 j h
      · have := h5 n (Nat.le_refl _)
        rw [show i - j = i - 1 - n by omega]; exact this
    · rintro ⟨h1, h2⟩
      exact ⟨⟨by omega, fun j hj => h2 j (by omega)⟩, by omega, by omega, fun j hj => by rw [show i - 1 - j = i - (j + 1) by omega]; exact h2 (j + 1) (by omega)⟩
theorem wit_dec {l n : Nat} (h : wit l n ≠ 0) : wit l (n + 1) < wit l n := by
  refine Nat.lt_of_le_of_ne Nat.and_le_left (fun e => ?_)
  -- the lowest bit falls
  have key : ∀ k, ∀ i, i ≤ k → (wit l n).testBit i = false := by
    intro k
    induction k with
    | zero =>
      intro i hi
      rw [show i = 0 by omega, ← e, wit, Nat.testBit_and, Nat.testBit_shiftLeft]
      simp
    | succ k ih =>
      intro i hi
      by_cases hk : i ≤ k
      · exact ih i hk
      · rw [show i = k + 1 by omega, ← e, wit, Nat.testBit_and, Nat.testBit_shiftLeft, Nat.add_sub_cancel, ih k (Nat.le_refl _)]
        simp
  obtain ⟨i, hi⟩ := bit_of_ne h
  rw [key i i (Nat.le_refl _)] at hi
  cases hi
theorem wit_z {l n m : Nat} (h : wit l n = 0) (hm : n ≤ m) : wit l m = 0 := by
  induction m with
  | zero => rwa [show n = 0 by omega] at h
  | succ m ih =>
    by_cases e : n = m + 1
    · rwa [e] at h
    · rw [wit, ih (by omega), Nat.zero_and]
theorem widF_eq {l n : Nat} (hn : n ≤ 32) (h : wit l n = 0) (h2 : ∀ m, m < n → wit l m ≠ 0) : widF l = n := by
  have key : ∀ k, sm (fun m => if wit l m ≠ 0 then 1 else 0) k = if k ≤ n then k else n := by
    intro k
    induction k with
    | zero => simp [sm]
    | succ k ih =>
      rw [sm, ih]
      by_cases h3 : k < n
      · rw [if_pos (by omega), if_pos (h2 k h3), if_pos (by omega)]
      · rw [if_neg (not_not_intro (wit_z h (by omega)))]
        by_cases h4 : k ≤ n
        · rw [if_pos h4]; split <;> omega
        · rw [if_neg h4]; split <;> omega
  rw [widF, key]
  split <;> omega
theorem widF_0 : widF 0 = 0 := widF_eq (n := 0) (by decide) rfl (fun m hm => by omega)
theorem widF_le (l : Nat) : widF l ≤ 32 := by
  have := sm_le (f := fun m => if wit l m ≠ 0 then 1 else 0) (c := 1) (fun i => by split <;> omega) 32
  exact this
/-- the greatest of the first k -/
def mxf (f : Nat → Nat) : Nat → Nat
  | 0 => 0
  | k + 1 => max (mxf f k) (f k)
theorem mxf_le {f : Nat → Nat} {c : Nat} (h : ∀ i, f i ≤ c) (k : Nat) : mxf f k ≤ c := by
  induction k with
  | zero => exact Nat.zero_le _
  | succ k ih => have := h k; rw [mxf]; omega
theorem mxf_z {f : Nat → Nat} {j n : Nat} (hj : j ≤ n) (h : ∀ i, j ≤ i → f i = 0) : mxf f n = mxf f j := by
  induction n with
  | zero => rw [show j = 0 by omega]
  | succ n ih =>
    by_cases e : j = n + 1
    · rw [e]
    · rw [mxf, ih (by omega), h n (by omega)]; omega
/-- the rows from low on, j of them, laid over one another -/
def bF (g : Nat → Nat) (low : Nat) : Nat → Nat
  | 0 => 16777215
  | j + 1 => bF g low j &&& g (low + j)
theorem bF_lt (g : Nat → Nat) (low j : Nat) : bF g low j < 16777216 := by
  induction j with
  | zero => exact (by decide : 16777215 < 16777216)
  | succ j ih => exact Nat.lt_of_le_of_lt Nat.and_le_left ih
theorem bF_z {g : Nat → Nat} {low j n : Nat} (h : bF g low j = 0) (hn : j ≤ n) : bF g low n = 0 := by
  induction n with
  | zero => rwa [show j = 0 by omega] at h
  | succ n ih =>
    by_cases e : j = n + 1
    · rwa [e] at h
    · rw [bF, ih (by omega), Nat.zero_and]
def inR (g : Nat → Nat) (low j : Nat) : Nat := widF (bF g low (j + 1)) * (j + 1)
def inS (g : Nat → Nat) (low j : Nat) : Nat := min (widF (bF g low (j + 1))) (j + 1)
theorem inR_z {g : Nat → Nat} {low j : Nat} (h : bF g low j = 0) (i : Nat) (hi : j ≤ i) : inR g low i = 0 := by rw [inR, bF_z h (by omega), widF_0, Nat.zero_mul]
theorem inS_z {g : Nat → Nat} {low j : Nat} (h : bF g low j = 0) (i : Nat) (hi : j ≤ i) : inS g low i = 0 := by rw [inS, bF_z h (by omega), widF_0, Nat.zero_min]
def larR (g : Nat → Nat) : Nat := mxf (fun low => mxf (inR g low) (24 - low)) 24
def larS (g : Nat → Nat) : Nat := mxf (fun low => mxf (inS g low) (24 - low)) 24
/-- pieces of a ground, flooded one behind another from their first cells -/
def PCr (c : Bool) : Nat → (Nat → Nat) → Prop
  | 0, T => ∀ y, y < 26 → T y = 0
  | n + 1, T => ∃ (y : Nat) (P0 P T' : Nat → Nat), y < 26 ∧ (∀ i, i < y → T i = 0) ∧ T y ≠ 0 ∧ (∀ i, i < 26 → P0 i = if i = y then pb_dif (T y) (T y - 1) else 0) ∧ FL c T P0 P ∧ (∀ i, i < 26 → T' i = pb_dif (T i) (P i)) ∧ PCr c n T'
theorem dif_pred {n : Nat} (h : n ≠ 0) : bs (pb_dif n (n - 1)) n ∧ pb_dif n (n - 1) ≠ 0 := by
  refine ⟨fun i hi => ?_, fun e => ?_⟩
  · rw [pb_dif_bit, Bool.and_eq_true] at hi; exact hi.1
  · have h2 : n &&& (n - 1) = n := by
      apply Nat.eq_of_testBit_eq
      intro i
      have := congrArg (fun z => z.testBit i) e
      simp only [pb_dif_bit, Nat.zero_testBit] at this
      rw [Nat.testBit_and]
      cases h3 : n.testBit i
      · rfl
      · rw [h3] at this; simpa using this
    have := and_pred_lt (n := n) (by omega)
    omega
theorem dif_self_lt {a b : Nat} (h : bs b a) (hb : b ≠ 0) : ∀ k, a < 2 ^ k → pop k (pb_dif a b) < pop k a := by
  intro k hk
  refine pop_lt (fun i hi => ?_) k hk (fun e => ?_)
  · rw [pb_dif_bit, Bool.and_eq_true] at hi; exact hi.1
  · obtain ⟨i, hi⟩ := bit_of_ne hb
    have h1 := h i hi
    have := congrArg (fun z => z.testBit i) e
    simp only [pb_dif_bit, h1, hi] at this
    cases this
theorem ext_ge {p : Nat → Prop} {k : Nat} (h : ∀ i, k ≤ i → p i) (hk : p (k - 1)) : ∀ i, k - 1 ≤ i → p i := fun i hi => by
  by_cases e : i = k - 1
  · rw [e]; exact hk
  · exact h i (by omega)
theorem ext_ge24 {p : Nat → Prop} {k : Nat} (h : ∀ i, k ≤ i → i < 24 → p i) (hk : p (k - 1)) : ∀ i, k - 1 ≤ i → i < 24 → p i := fun i hi h2 => by
  by_cases e : i = k - 1
  · rw [e]; exact hk
  · exact h i (by omega) h2
theorem up_step {p : Nat → Prop} {k x : Nat} (hx : x < 24) (hp : ¬ p x) (h : ∀ i, i < k → p i) (hk : p k) (h23 : k ≤ 23) : k + 1 ≤ 23 := by
  rcases Nat.lt_or_ge k 23 with h9 | h9
  · omega
  · exfalso
    by_cases e : x = k
    · rw [e] at hp; exact hp hk
    · exact hp (h x (by omega))
theorem dn_step {p : Nat → Prop} {k x : Nat} (hx : x < 24) (hp : ¬ p x) (h : ∀ i, k ≤ i → i < 24 → p i) (hk : p (k - 1)) (h1 : 1 ≤ k ∧ k ≤ 24) : 1 ≤ k - 1 ∧ k - 1 ≤ 24 := by
  rcases Nat.lt_or_ge 1 k with h9 | h9
  · omega
  · exfalso
    by_cases e : x = k - 1
    · rw [e] at hp; exact hp hk
    · exact hp (h x (by omega) hx)
theorem bit_t {n k : Nat} (h : ¬ (((n >>> k) &&& 1 : Nat) : Int) = 0) : n.testBit k = true := by
  cases h9 : n.testBit k
  · exact absurd (congrArg (fun n : Nat => (n : Int)) ((and1_bit n k).mpr h9)) h
  · rfl
theorem wit_31 {l n : Nat} (hl : l < 2147483648) (h : wit l n ≠ 0) : n + 1 ≤ 31 := by
  obtain ⟨i, hi⟩ := bit_of_ne h
  have h8 := (wit_bit l n i).mp hi
  have h7 := bit_lt (k := 31) hl (h8.2 0 (by omega))
  omega
theorem sm_lt {f g : Nat → Nat} {n k : Nat} (hk : k < n) (h : ∀ i, i < n → f i ≤ g i) (hl : f k < g k) : sm f n < sm g n := by
  have hle : ∀ n, (∀ i, i < n → f i ≤ g i) → sm f n ≤ sm g n := by
    intro n
    induction n with
    | zero => intro _; exact Nat.le_refl _
    | succ n ih => intro h; have := ih (fun i hi => h i (by omega)); have := h n (by omega); rw [sm, sm]; omega
  induction n with
  | zero => omega
  | succ n ih =>
    rw [sm, sm]
    by_cases e : k = n
    · subst e; have := hle k (fun i hi => h i (by omega)); omega
    · have := ih (by omega) (fun i hi => h i (by omega)); have := h n (by omega); omega
def pcP (T P : Nat → Nat) (k : Nat) : Nat → Nat := va_up (mdR (fun _ => 0) P 26) k (pb_dif (T k) (T k - 1))
def pcT (T P2 : Nat → Nat) (j : Nat) : Nat → Nat := mdR (fun i => pb_dif (T i) (P2 i)) T j
theorem pcP_eq (T P : Nat → Nat) {k i : Nat} (hi : i < 26) : pcP T P k i = if i = k then pb_dif (T k) (T k - 1) else 0 := by
  unfold pcP va_up mdR
  split
  · rfl
  · rfl
theorem pc_sub {T P : Nat → Nat} {k : Nat} (h : T k ≠ 0) : fsub (pcP T P k) T := by
  intro i hi
  rw [pcP_eq T P hi]
  split
  · next e => subst e; exact (dif_pred h).1
  · exact bs.z _
theorem pcT_26 (T P2 : Nat → Nat) {i : Nat} (hi : i < 26) : pcT T P2 26 i = pb_dif (T i) (P2 i) := if_pos hi
theorem dif_bs (a b : Nat) : bs (pb_dif a b) a := fun i hi => by rw [pb_dif_bit, Bool.and_eq_true] at hi; exact hi.1
theorem pc_dec {c : Bool} {T P P2 : Nat → Nat} {k : Nat} (hT : ∀ y, y < 26 → T y < 67108864) (hk : k < 26) (h : T k ≠ 0) (hFL : FL c T (pcP T P k) P2) : ftot (pcT T P2 26) < ftot T := by
  refine sm_lt hk (fun i hi => ?_) ?_
  · rw [pcT_26 T P2 hi]; exact pop_mono (dif_bs _ _) 26
  · show pop 26 (pcT T P2 26 k) < pop 26 (T k)
    rw [pcT_26 T P2 hk]
    refine dif_self_lt (hFL.1.2.1 k hk) (fun e => ?_) 26 (hT k hk)
    obtain ⟨i, hi⟩ := bit_of_ne (dif_pred h).2
    have := hFL.1.1 k hk i (by rw [pcP_eq T P hk, if_pos rfl]; exact hi)
    rw [e, Nat.zero_testBit] at this
    cases this
theorem pc_rec {c : Bool} {T P P2 T0 : Nat → Nat} {k n : Nat} (hk : k < 26) (hz : ∀ i, i < k → T i = 0) (h : T k ≠ 0) (hFL : FL c T (pcP T P k) P2) (hr : ∀ m, PCr c m T → PCr c (n + m) T0) : ∀ m, PCr c m (pcT T P2 26) → PCr c (n + 1 + m) T0 := by
  intro m hm
  rw [show n + 1 + m = n + (m + 1) by omega]
  exact hr (m + 1) ⟨k, _, P2, _, hk, hz, h, fun i hi => pcP_eq T P hi, hFL, fun i hi => pcT_26 T P2 hi, hm⟩
theorem pcT_lt {T P2 : Nat → Nat} (hT : ∀ y, y < 26 → T y < 67108864) : ∀ y, y < 26 → pcT T P2 26 y < 67108864 := fun y hy => by
  rw [pcT_26 T P2 hy]; exact (dif_bs _ _).lt (n := 26) (hT y hy)
theorem pcT_z {T P2 : Nat → Nat} {k : Nat} (hk : k < 26) (h : ∀ i, i < k → T i = 0) : ∀ i, i < k → pcT T P2 26 i = 0 := fun i hi => by
  rw [pcT_26 T P2 (by omega), h i hi, pb_dif, Nat.zero_and]; rfl
theorem shr_lt24 {a : Nat} (h : a < 67108864) : a >>> 1 < 2147483648 := by rw [Nat.shiftRight_eq_div_pow]; omega
theorem fh_sub (g old old2 : Nat → Nat) : fsub (va_up (mdR (fun _ => 0) old 26) 0 1) (mdR (fun i => gout g i) old2 26) := by
  intro y hy i hi
  unfold va_up mdR at hi
  by_cases h0 : y = 0
  · subst h0
    rw [if_pos rfl] at hi
    have : i = 0 := by
      cases i with
      | zero => rfl
      | succ i => rw [Nat.testBit_succ] at hi; simp at hi
    subst this
    rw [mdR, if_pos (by decide), gout, pb_dif_bit, Nat.testBit_shiftLeft, show decide ((0 : Nat) ≥ 1) = false from rfl, Bool.false_and]
    rfl
  · rw [if_neg h0, if_pos hy, Nat.zero_testBit] at hi; cases hi
theorem fh_lt {g old old2 P : Nat → Nat} (h : FL true (mdR (fun i => gout g i) old2 26) old P) {y : Nat} (hy : y < 26) : P y < 67108864 :=
  FO_lt (fun y hy => by rw [mdR, if_pos hy]; exact gout_lt g y) h.1 hy
theorem kp_lt {g old old2 P : Nat → Nat} (hg : gok g) (h : FL false (mdR (fun i => gins g i) old2 26) old P) {y : Nat} (hy : y < 26) : P y < 67108864 :=
  FO_lt (fun y hy => by rw [mdR, if_pos hy]; exact gins_lt hg y) h.1 hy
theorem kp_lt2 {g old old2 P : Nat → Nat} (hg : gok g) (h : FL false (mdR (fun i => gins g i) old2 26) old P) {y : Nat} (hy : y < 26) : P y >>> 1 < 16777216 := by
  have h1 := h.1.2.1 y hy
  rw [mdR, if_pos hy] at h1
  have h2 : P y < 2 ^ 25 := h1.lt (by have := gr_lt hg ((y : Int) - 1); rw [gins, Nat.shiftLeft_eq]; omega)
  rw [Nat.shiftRight_eq_div_pow]; omega
theorem kp_sub {g : Nat → Nat} (old old2 : Nat → Nat) {x y : Nat} (hy : y < 24) (hc : (g y).testBit x = true) : fsub (va_up (mdR (fun _ => 0) old 26) (y + 1) (2 <<< x)) (mdR (fun i => gins g i) old2 26) := by
  intro r hr i hi
  unfold va_up mdR at hi
  by_cases h0 : r = y + 1
  · subst h0
    rw [if_pos rfl, Nat.testBit_shiftLeft, Bool.and_eq_true, decide_eq_true_eq] at hi
    have h2 : i - x = 1 := by
      have := hi.2
      rw [show (2 : Nat) = 2 ^ 1 from rfl, Nat.testBit_two_pow, decide_eq_true_eq] at this
      omega
    rw [mdR, if_pos hr, gins, gr_of (k := y) (by omega), Nat.testBit_shiftLeft, Bool.and_eq_true, decide_eq_true_eq]
    exact ⟨by omega, by rw [show i - 1 = x by omega]; exact hc⟩
  · rw [if_neg h0, if_pos hr, Nat.zero_testBit] at hi; cases hi
