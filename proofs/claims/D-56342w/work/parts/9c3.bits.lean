set_option maxRecDepth 100000
/-! bounds of the answers; the reference's new rows, bit by bit -/
theorem permV_le (g : Nat → Nat) : permV g ≤ 1600 := sm_le (c := 64) (fun i => by have h1 := pop_le 32 (g i ^^^ gr g ((i : Int) - 1)); have h2 := pop_le 32 (g i ^^^ g i <<< 1); omega) 25
theorem bandV_le (g : Nat → Nat) : bandV g ≤ 24 := sm_le (c := 1) (fun i => by split <;> omega) 24
theorem rectV_le (g : Nat → Nat) : rectV g ≤ 768 := sm_le (c := 32) (fun i => by
  split
  · exact Nat.zero_le _
  · exact pop_le 32 _) 24
theorem lar_le {g : Nat → Nat} (hg : gok g) : larR g ≤ 576 ∧ larS g ≤ 24 := by
  constructor
  · rcases (larR_mx hg).2 with h | ⟨x0, w, y0, h, hf, hw, hh, e⟩
    · omega
    · have h3 := fit_in hg hf hw hh
      have h4 : w * h ≤ 24 * 24 := Nat.mul_le_mul (by omega) (by omega)
      have e : larR g = w * h := e
      omega
  · rcases (larS_mx hg).2 with h | ⟨x0, w, y0, h, hf, hw, hh, e⟩
    · omega
    · have h3 := fit_in hg hf hw hh
      have e : larS g = min w h := e
      omega
theorem ctP_le (g : Nat → Nat) (co : Bool) (n : Nat) : ctP g co n ≤ n := by
  induction n with
  | zero => exact Nat.le_refl _
  | succ n ih =>
    rw [ctP]
    have : (if fyG (ctG g co n) < 24 then (if (co && rimG (cpG (ctG g co n) co) 24) = true then 0 else 1) else 0) ≤ 1 := by
      split
      · split <;> omega
      · omega
    omega
theorem outs_le (g : Nat → Nat) (j : Nat) : (outs g j).length ≤ j := by
  induction j with
  | zero => exact Nat.le_refl _
  | succ j ih =>
    rw [outs]
    split
    · rw [List.length_append]; exact Nat.succ_le_succ ih
    · omega
theorem negL_le (g : Nat → Nat) : (negL g).length ≤ 2500 := Nat.le_trans (List.length_filter_le _ _) (outs_le g 2500)
theorem crnK_lok {g : Nat → Nat} (hg : gok g) {d : Nat × Nat × Nat} (h : lok g d) (k : Nat) : ∀ e ∈ crnK g d k, lok g e := by
  induction k with
  | zero => intro e he; exact absurd he List.not_mem_nil
  | succ k ih =>
    intro e he
    rw [crnK] at he
    split at he
    · exact ih e he
    · rcases List.mem_append.mp he with h9 | h9
      · exact ih e h9
      · rw [List.mem_singleton.mp h9]; exact lok_Dk hg h k
theorem crn_24 {g : Nat → Nat} (hg : gok g) {q c : Nat} {d e : Nat × Nat × Nat} (hq : (outs g 2500)[q]? = some d) (hc : (crn g d)[c]? = some e) : e.1 ≤ 24 ∧ e.2.1 ≤ 24 := by
  have h := crnK_lok hg (outs_lok 2500 d (List.mem_of_getElem? hq)) _ e (List.mem_of_getElem? hc)
  exact ⟨h.1, h.2.1⟩
/-! what the flood reads -/
theorem fcl_cong {c : Bool} {T T' Q : Nat → Nat} (h : ∀ y, y < 26 → T y = T' y) (f : fcl c T Q) : fcl c T' Q := fun y hy => by rw [← h y hy]; exact f y hy
theorem FL_cong {c : Bool} {T T' P0 P : Nat → Nat} (h : ∀ y, y < 26 → T y = T' y) (f : FL c T P0 P) : FL c T' P0 P := by
  obtain ⟨⟨f1, f2, f3⟩, f4⟩ := f
  exact ⟨⟨f1, fun y hy => by rw [← h y hy]; exact f2 y hy, fun Q q1 q2 => f3 Q q1 (fcl_cong (fun y hy => (h y hy).symm) q2)⟩, fcl_cong h f4⟩
theorem PCr_cong {c : Bool} {n : Nat} {T T' : Nat → Nat} (h : ∀ y, y < 26 → T y = T' y) (f : PCr c n T) : PCr c n T' := by
  cases n with
  | zero => exact fun y hy => by rw [← h y hy]; exact f y hy
  | succ n =>
    obtain ⟨y, P0, P, T2, h1, h2, h3, h4, h5, h6, h7⟩ := f
    refine ⟨y, P0, P, T2, h1, fun i hi => by rw [← h i (by omega)]; exact h2 i hi, by rw [← h y h1]; exact h3, fun i hi => ?_, FL_cong h h5, fun i hi => by rw [← h i hi]; exact h6 i hi, h7⟩
    rw [← h y h1]
    exact h4 i hi
theorem mdR_at {φ old : Nat → Nat} {n j : Nat} (h : j < n) : mdR φ old n j = φ j := by unfold mdR; rw [if_pos h]
theorem mdF_at {φ : Nat → Nat → Bool} {old : Nat → Nat} {n j : Nat} (h : j < n) : mdF φ old n j = msk (φ j) 24 := by unfold mdF; rw [if_pos h]
/-! the new rows -/
theorem b_full {i : Nat} (hi : i < 24) : (16777215 : Nat).testBit i = true := by
  have h : (16777215 : Nat) = 2 ^ 24 - 1 := by decide
  rw [h, Nat.testBit_two_pow_sub_one, decide_eq_true hi]
theorem cb_nat {i j : Nat} (hi : i < 24) (hj : j < 24) : cb24 ((i : Nat) : Int) ((j : Nat) : Int) = true := cb24_iff.mpr (by omega)
theorem mv_bit {g : Nat → Nat} {r u : Int} {i j : Nat} (hi : i < 24) (hj : j < 24) : (mvrow g r u j).testBit i = (gc g (((i : Nat) : Int) - r) (((j : Nat) : Int) - u) && cb24 ((i : Nat) : Int) ((j : Nat) : Int)) := by
  rw [cb_nat hi hj, Bool.and_true]
  unfold mvrow gc
  by_cases h : 0 ≤ r
  · rw [if_pos h, Nat.testBit_and, b_full hi, Bool.and_true, Nat.testBit_shiftLeft]
    by_cases h2 : r.toNat ≤ i
    · rw [decide_eq_true (show i ≥ r.toNat from h2), decide_eq_true (show (0 : Int) ≤ ((i : Nat) : Int) - r from by omega), show (((i : Nat) : Int) - r).toNat = i - r.toNat from by omega]
    · rw [decide_eq_false (show ¬ i ≥ r.toNat from h2), decide_eq_false (show ¬ (0 : Int) ≤ ((i : Nat) : Int) - r from by omega), Bool.false_and, Bool.false_and]
  · rw [if_neg h, Nat.testBit_shiftRight, decide_eq_true (show (0 : Int) ≤ ((i : Nat) : Int) - r from by omega), Bool.true_and, show (((i : Nat) : Int) - r).toNat = (-r).toNat + i from by omega]
theorem dil_x {S : Int → Int → Bool} {d x y : Int} : dil S d x y = true ↔ ∃ x' y', S x' y' = true ∧ (x - d ≤ x' ∧ x' ≤ x + d) ∧ y - d ≤ y' ∧ y' ≤ y + d := by
  unfold dil
  exact @decide_eq_true_iff _ (Classical.propDecidable _)
theorem sqv_ft {g : Nat → Nat} {x y d : Int} : sqv g x y d false = true ↔ ¬ sq g x y d false := by
  by_cases h : sq g x y d false
  · rw [sqv_t h]; exact ⟨fun e => (by cases e), fun e => absurd h e⟩
  · rw [sqv_f h]; exact ⟨fun _ => h, fun _ => rfl⟩
theorem sqv_tt {g : Nat → Nat} {x y d : Int} : sqv g x y d true = true ↔ sq g x y d true := by
  by_cases h : sq g x y d true
  · rw [sqv_t h]; exact ⟨fun _ => h, fun _ => rfl⟩
  · rw [sqv_f h]; exact ⟨fun e => (by cases e), fun e => absurd e h⟩
theorem grow_bit {g : Nat → Nat} {d : Int} {i j : Nat} (hi : i < 24) (hj : j < 24) : sqv g ((i : Nat) : Int) ((j : Nat) : Int) d false = opk 1 (dil (gc g) d ((i : Nat) : Int) ((j : Nat) : Int)) (cb24 ((i : Nat) : Int) ((j : Nat) : Int)) := by
  rw [cb_nat hi hj]
  show _ = (dil (gc g) d ((i : Nat) : Int) ((j : Nat) : Int) && true)
  rw [Bool.and_true]
  refine b_iff (sqv_ft.trans (Iff.trans ?_ dil_x.symm))
  constructor
  · intro h
    refine Classical.byContradiction fun h9 => h fun a b a1 a2 b1 b2 => ?_
    cases h8 : gc g a b
    · rfl
    · exact absurd ⟨a, b, h8, ⟨a1, a2⟩, b1, b2⟩ h9
  · rintro ⟨x, y, h1, h2, h3⟩ h
    rw [h x y h2.1 h2.2 h3.1 h3.2] at h1
    cases h1
theorem shrink_bit {g : Nat → Nat} {d : Int} (hd : 0 ≤ d) {i j : Nat} (hi : i < 24) (hj : j < 24) : sqv g ((i : Nat) : Int) ((j : Nat) : Int) d true = opk 2 (gc g ((i : Nat) : Int) ((j : Nat) : Int)) (dil (fun x y => (opk 2 ((decide (-d - 1 ≤ x) && decide (x < 24 + d + 1)) && (decide (-d - 1 ≤ y) && decide (y < 24 + d + 1))) (gc g x y))) d ((i : Nat) : Int) ((j : Nat) : Int)) := by
  refine b_iff (sqv_tt.trans ?_)
  show _ ↔ (gc g ((i : Nat) : Int) ((j : Nat) : Int) && !dil _ d ((i : Nat) : Int) ((j : Nat) : Int)) = true
  rw [Bool.and_eq_true, Bool.not_eq_true', ← Bool.not_eq_true, dil_x]
  constructor
  · intro h
    refine ⟨h _ _ (by omega) (by omega) (by omega) (by omega), ?_⟩
    rintro ⟨x, y, h1, h2, h3⟩
    have h4 := h x y h2.1 h2.2 h3.1 h3.2
    have h1 : (((decide (-d - 1 ≤ x) && decide (x < 24 + d + 1)) && (decide (-d - 1 ≤ y) && decide (y < 24 + d + 1))) && !gc g x y) = true := h1
    rw [h4, Bool.not_true, Bool.and_false] at h1
    cases h1
  · rintro ⟨h0, h9⟩ a b a1 a2 b1 b2
    cases h8 : gc g a b
    · refine absurd ⟨a, b, ?_, ⟨a1, a2⟩, b1, b2⟩ h9
      show (((decide (-d - 1 ≤ a) && decide (a < 24 + d + 1)) && (decide (-d - 1 ≤ b) && decide (b < 24 + d + 1))) && !gc g a b) = true
      rw [h8, decide_eq_true (show -d - 1 ≤ a from by omega), decide_eq_true (show a < 24 + d + 1 from by omega), decide_eq_true (show -d - 1 ≤ b from by omega), decide_eq_true (show b < 24 + d + 1 from by omega)]
      rfl
    · rfl
theorem cn_T {T : Int × Int → Prop} {c : Bool} {p q : Int × Int} (h : cn T c p q) : T q := h.2 T h.1 (fun _ _ _ _ hb _ => hb)
theorem M26_cong {T T' : Nat → Nat} (h : ∀ y, y < 26 → T y = T' y) (p : Int × Int) : M26 T p ↔ M26 T' p := by
  unfold M26
  constructor
  · rintro ⟨h1, h2, h3, h4⟩
    exact ⟨h1, h2, h3, by rw [← h _ (by omega)]; exact h4⟩
  · rintro ⟨h1, h2, h3, h4⟩
    exact ⟨h1, h2, h3, by rw [h _ (by omega)]; exact h4⟩
theorem fh_bit {g P old old2 : Nat → Nat} (hg : gok g) (hP : FL true (mdR (fun i => gout g i) old 26) (va_up (mdR (fun _ => 0) old2 26) 0 1) P) {i j : Nat} (hi : i < 24) (hj : j < 24) :
    (pb_dif 16777215 (P (j + 1) >>> 1)).testBit i = opk 0 (gc g ((i : Nat) : Int) ((j : Nat) : Int)) (gc (inP (otG g 24) 600) ((i : Nat) : Int) ((j : Nat) : Int)) := by
  have hP : FL true (gout g) (va_up (mdR (fun _ => 0) old2 26) 0 1) P := FL_cong (fun y hy => mdR_at hy) hP
  have h0 : ∀ p, M26 (va_up (mdR (fun _ => 0) old2 26) 0 1) p ↔ p = (-1, -1) := by
    rintro ⟨x, y⟩
    constructor
    · rintro ⟨h1, h2, h3, h4⟩
      dsimp only at h1 h2 h3 h4
      unfold va_up at h4
      by_cases hy : (y + 1).toNat = 0
      · rw [if_pos hy] at h4
        have hx : (x + 1).toNat = 0 := by
          refine Classical.byContradiction fun hx => ?_
          obtain ⟨k, hk⟩ : ∃ k, (x + 1).toNat = k + 1 := ⟨(x + 1).toNat - 1, by omega⟩
          rw [hk, Nat.testBit_succ] at h4
          have : (1 : Nat) / 2 = 0 := rfl
          rw [this, Nat.zero_testBit] at h4
          cases h4
        exact Prod.ext (by show x = -1; omega) (by show y = -1; omega)
      · rw [if_neg hy, mdR_at (by omega), Nat.zero_testBit] at h4
        cases h4
    · intro h
      obtain ⟨rfl, rfl⟩ := Prod.mk.inj h
      refine ⟨by decide, by decide, by decide, ?_⟩
      show (va_up (mdR (fun _ => 0) old2 26) 0 1 0).testBit 0 = true
      unfold va_up
      rw [if_pos rfl]
      decide
  have hs : M26 (gout g) (-1, -1) := (gout_bit hg _).mpr ⟨by decide, fun h => by have := gc_in hg h; omega⟩
  have hb := fl_bit (fun y _ => gout_lt g y) hP hs h0 (((i : Nat) : Int), ((j : Nat) : Int))
  have hPb : M26 P (((i : Nat) : Int), ((j : Nat) : Int)) ↔ (P (j + 1)).testBit (i + 1) = true := by
    have := M26_nat P (i := i + 1) (y := j + 1) (by omega)
    rw [show (((i + 1 : Nat) : Int) - 1) = ((i : Nat) : Int) from by omega, show (((j + 1 : Nat) : Int) - 1) = ((j : Nat) : Int) from by omega] at this
    exact this
  have ho := out_law hg (((i : Nat) : Int), ((j : Nat) : Int))
  have hi9 := (in_law (gok_ot (g := g) (Nat.le_refl 24))).2 (((i : Nat) : Int), ((j : Nat) : Int))
  have hgo := gout_bit hg (((i : Nat) : Int), ((j : Nat) : Int))
  rw [pb_dif_bit, b_full hi, Bool.true_and, Nat.testBit_shiftRight, Nat.add_comm 1 i]
  show _ = (gc g ((i : Nat) : Int) ((j : Nat) : Int) || gc (inP (otG g 24) 600) ((i : Nat) : Int) ((j : Nat) : Int))
  have hbox : (-1 ≤ ((i : Nat) : Int) ∧ ((i : Nat) : Int) ≤ 24) ∧ -1 ≤ ((j : Nat) : Int) ∧ ((j : Nat) : Int) ≤ 24 := by omega
  cases hc : gc g ((i : Nat) : Int) ((j : Nat) : Int)
  · rw [Bool.false_or]
    have hm : M26 (gout g) (((i : Nat) : Int), ((j : Nat) : Int)) := hgo.mpr ⟨hbox, fun h => by have h : gc g ((i : Nat) : Int) ((j : Nat) : Int) = true := h; rw [hc] at h; cases h⟩
    cases h8 : gc (inP (otG g 24) 600) ((i : Nat) : Int) ((j : Nat) : Int)
    · cases h7 : (P (j + 1)).testBit (i + 1)
      · have : inn (gT (otG g 24)) (((i : Nat) : Int), ((j : Nat) : Int)) := ho.mpr ⟨hm, fun h => by have := hPb.mp (hb.mpr h); rw [h7] at this; cases this⟩
        have h6 : gc (inP (otG g 24) 600) ((i : Nat) : Int) ((j : Nat) : Int) = true := hi9.mpr this
        rw [h8] at h6; cases h6
      · rfl
    · have h6 : inn (gT (otG g 24)) (((i : Nat) : Int), ((j : Nat) : Int)) := hi9.mp h8
      have h5 := (ho.mp h6).2
      cases h7 : (P (j + 1)).testBit (i + 1)
      · rfl
      · exact absurd (hb.mp (hPb.mpr h7)) h5
  · rw [Bool.true_or]
    cases h7 : (P (j + 1)).testBit (i + 1)
    · rfl
    · have h6 := cn_T (hb.mp (hPb.mpr h7))
      exact absurd hc (hgo.mp h6).2
theorem kp_bit {g P old old2 : Nat → Nat} (hg : gok g) {x y : Nat} (hx : x < 24) (hy : y < 24) (hc : (g y).testBit x = true) (hP : FL false (mdR (fun i => gins g i) old 26) (va_up (mdR (fun _ => 0) old2 26) (y + 1) (2 <<< x)) P) {i j : Nat} (hi : i < 24) (hj : j < 24) :
    (P (j + 1) >>> 1).testBit i = true ↔ cn (gT g) false (((x : Nat) : Int), ((y : Nat) : Int)) (((i : Nat) : Int), ((j : Nat) : Int)) := by
  have hP : FL false (gins g) (va_up (mdR (fun _ => 0) old2 26) (y + 1) (2 <<< x)) P := FL_cong (fun y hy => mdR_at hy) hP
  have h0 : ∀ p, M26 (va_up (mdR (fun _ => 0) old2 26) (y + 1) (2 <<< x)) p ↔ p = (((x : Nat) : Int), ((y : Nat) : Int)) := by
    rintro ⟨a, b⟩
    have e2 : (2 <<< x : Nat) = 2 ^ (x + 1) := by rw [Nat.shiftLeft_eq, Nat.pow_succ, Nat.mul_comm]
    constructor
    · rintro ⟨h1, h2, h3, h4⟩
      dsimp only at h1 h2 h3 h4
      unfold va_up at h4
      by_cases hb : (b + 1).toNat = y + 1
      · rw [if_pos hb, e2, Nat.testBit_two_pow, decide_eq_true_eq] at h4
        exact Prod.ext (by show a = _; omega) (by show b = _; omega)
      · rw [if_neg hb, mdR_at (by omega), Nat.zero_testBit] at h4
        cases h4
    · intro h
      obtain ⟨rfl, rfl⟩ := Prod.mk.inj h
      refine ⟨by dsimp only; omega, by dsimp only; omega, by dsimp only; omega, ?_⟩
      dsimp only
      unfold va_up
      rw [if_pos (by omega), e2, show (((x : Nat) : Int) + 1).toNat = x + 1 from by omega, Nat.testBit_two_pow, decide_eq_true rfl]
  have hs : M26 (gins g) (((x : Nat) : Int), ((y : Nat) : Int)) := (gins_bit hg _).mpr (by show gc g _ _ = true; rw [gc_nat]; exact hc)
  have hb := fl_bit (fun y _ => gins_lt hg y) hP hs h0 (((i : Nat) : Int), ((j : Nat) : Int))
  have hPb : M26 P (((i : Nat) : Int), ((j : Nat) : Int)) ↔ (P (j + 1)).testBit (i + 1) = true := by
    have := M26_nat P (i := i + 1) (y := j + 1) (by omega)
    rw [show (((i + 1 : Nat) : Int) - 1) = ((i : Nat) : Int) from by omega, show (((j + 1 : Nat) : Int) - 1) = ((j : Nat) : Int) from by omega] at this
    exact this
  rw [Nat.testBit_shiftRight, Nat.add_comm 1 i, ← hPb, hb]
  constructor
  · rintro ⟨h1, h2⟩
    refine ⟨(gins_bit hg _).mp h1, fun Q q1 q2 => h2 Q q1 fun a b qa ta tb ad => q2 a b qa ((gins_bit hg _).mp ta) ((gins_bit hg _).mp tb) ad⟩
  · rintro ⟨h1, h2⟩
    refine ⟨(gins_bit hg _).mpr h1, fun Q q1 q2 => h2 Q q1 fun a b qa ta tb ad => q2 a b qa ((gins_bit hg _).mpr ta) ((gins_bit hg _).mpr tb) ad⟩
/-- windings read the first n points alone -/
theorem wsum_cong {X Y X' Y' : Nat → Int} {n : Nat} (h : ∀ i, i < n → X i = X' i ∧ Y i = Y' i) (x y : Int) : ∀ k, k ≤ n → wsum X Y n x y k = wsum X' Y' n x y k := by
  intro k
  induction k with
  | zero => intro _; rfl
  | succ k ih =>
    intro hk
    rw [wsum, wsum, ih (by omega)]
    congr 1
    have h1 := h k (by omega)
    have h2 := h (if k + 1 = n then 0 else k + 1) (by split <;> omega)
    unfold wc
    rw [h1.1, h1.2, h2.1, h2.2]
theorem wfill_cong {X Y X' Y' : Nat → Int} {n : Nat} (h : ∀ i, i < n → X i = X' i ∧ Y i = Y' i) (odd : Bool) (y x : Nat) : wfill X Y n odd y x = wfill X' Y' n odd y x := by
  unfold wfill
  rw [wsum_cong h _ _ n (Nat.le_refl n)]
