set_option maxRecDepth 100000
/-! PLAIN LAWS: pieces that hang together -/
def adj (c : Bool) (p q : Int × Int) : Prop := (-1 ≤ p.1 - q.1 ∧ p.1 - q.1 ≤ 1) ∧ (-1 ≤ p.2 - q.2 ∧ p.2 - q.2 ≤ 1) ∧ (c = true ∨ p.1 = q.1 ∨ p.2 = q.2)
theorem adj_sym {c : Bool} {p q : Int × Int} (h : adj c p q) : adj c q p := by
  obtain ⟨h1, h2, h3⟩ := h
  exact ⟨by omega, by omega, h3.imp id (fun h => h.imp Eq.symm Eq.symm)⟩
/-- what hangs together with p in T -/
def cn (T : Int × Int → Prop) (c : Bool) (p q : Int × Int) : Prop := T p ∧ ∀ Q : Int × Int → Prop, Q p → (∀ a b, Q a → T a → T b → adj c a b → Q b) → Q q
theorem cn_rf {T : Int × Int → Prop} {c : Bool} {p : Int × Int} (h : T p) : cn T c p p := ⟨h, fun _ h1 _ => h1⟩
theorem cn_in {T : Int × Int → Prop} {c : Bool} {p q : Int × Int} (h : cn T c p q) : T p ∧ T q := ⟨h.1, h.2 T h.1 (fun _ _ _ _ h _ => h)⟩
theorem cn_tr {T : Int × Int → Prop} {c : Bool} {p q r : Int × Int} (h : cn T c p q) (h2 : cn T c q r) : cn T c p r := ⟨h.1, fun Q h3 h4 => h2.2 Q (h.2 Q h3 h4) h4⟩
theorem cn_st {T : Int × Int → Prop} {c : Bool} {p a b : Int × Int} (h : cn T c p a) (hb : T b) (hab : adj c a b) : cn T c p b := ⟨h.1, fun Q h3 h4 => h4 a b (h.2 Q h3 h4) (cn_in h).2 hb hab⟩
theorem cn_sy {T : Int × Int → Prop} {c : Bool} {p q : Int × Int} (h : cn T c p q) : cn T c q p :=
  h.2 (fun x => cn T c x p) (cn_rf h.1) (fun _ _ ha ta tb hab => cn_tr (cn_st (cn_rf tb) ta (adj_sym hab)) ha)
theorem cn_mono {T T' : Int × Int → Prop} {c : Bool} {p q : Int × Int} (h : cn T c p q) (ht : ∀ x, T x → T' x) : cn T' c p q :=
  ⟨ht _ h.1, fun Q h1 h2 => (h.2 (fun x => Q x) h1 (fun a b qa ta tb hab => h2 a b qa (ht _ ta) (ht _ tb) hab))⟩
theorem cn_eqv {T T' : Int × Int → Prop} {c : Bool} {p q : Int × Int} (ht : ∀ x, T x ↔ T' x) : cn T c p q ↔ cn T' c p q := ⟨fun h => cn_mono h (fun x => (ht x).mp), fun h => cn_mono h (fun x => (ht x).mpr)⟩
/-- n pieces -/
def NC (T : Int × Int → Prop) (c : Bool) (n : Nat) : Prop := ∃ l : List (Int × Int), l.length = n ∧ (∀ p ∈ l, T p) ∧ l.Pairwise (fun p q => ¬ cn T c p q) ∧ ∀ x, T x → ∃ p ∈ l, cn T c p x
theorem NC_eqv {T T' : Int × Int → Prop} {c : Bool} {n : Nat} (ht : ∀ x, T x ↔ T' x) (h : NC T c n) : NC T' c n := by
  obtain ⟨l, h1, h2, h3, h4⟩ := h
  exact ⟨l, h1, fun p hp => (ht p).mp (h2 p hp), h3.imp (fun h z => h ((cn_eqv ht).mpr z)), fun x hx => by
    obtain ⟨p, hp, h5⟩ := h4 x ((ht x).mpr hx)
    exact ⟨p, hp, (cn_eqv ht).mp h5⟩⟩
theorem pigeon {α : Type} (R : α → α → Prop) : ∀ (l l' : List α), (∀ p ∈ l, ∃ q ∈ l', R p q) → l.Pairwise (fun p p' => ∀ q, R p q → ¬ R p' q) → l.length ≤ l'.length := by
  intro l
  induction l with
  | nil => intro l' _ _; exact Nat.zero_le _
  | cons p l ih =>
    intro l' h1 h2
    obtain ⟨q, hq, hR⟩ := h1 p List.mem_cons_self
    obtain ⟨a, b, rfl⟩ := List.append_of_mem hq
    rw [List.pairwise_cons] at h2
    have := ih (a ++ b) (fun p' hp' => by
      obtain ⟨q', hq', hR'⟩ := h1 p' (List.mem_cons_of_mem _ hp')
      refine ⟨q', ?_, hR'⟩
      rcases List.mem_append.mp hq' with z | z
      · exact List.mem_append_left _ z
      · rcases List.mem_cons.mp z with z | z
        · subst z; exact absurd hR' (h2.1 p' hp' q' hR)
        · exact List.mem_append_right _ z) h2.2
    rw [List.length_append, List.length_cons]
    rw [List.length_append] at this
    rw [List.length_cons]
    omega
theorem NC_le {T : Int × Int → Prop} {c : Bool} {n m : Nat} (h : NC T c n) (h' : NC T c m) : n ≤ m := by
  obtain ⟨l, h1, h2, h3, h4⟩ := h
  obtain ⟨l', i1, i2, i3, i4⟩ := h'
  rw [← h1, ← i1]
  refine pigeon (fun p q => cn T c p q) l l' (fun p hp => ?_) (h3.imp (fun h q a b => h (cn_tr a (cn_sy b))))
  obtain ⟨q, hq, h5⟩ := i4 p (h2 p hp)
  exact ⟨q, hq, cn_sy h5⟩
theorem NC_u {T : Int × Int → Prop} {c : Bool} {n m : Nat} (h : NC T c n) (h' : NC T c m) : n = m := Nat.le_antisymm (NC_le h h') (NC_le h' h)
theorem NC_0 {T : Int × Int → Prop} {c : Bool} (h : ∀ x, ¬ T x) : NC T c 0 := ⟨[], rfl, fun p hp => (by cases hp), List.Pairwise.nil, fun x hx => absurd hx (h x)⟩
/-- a piece taken away leaves the others as they are -/
theorem cn_rest {T T' : Int × Int → Prop} {c : Bool} {s : Int × Int} (hT : ∀ x, T' x ↔ T x ∧ ¬ cn T c s x) {p q : Int × Int} (hp : T' p) : cn T' c p q ↔ cn T c p q := by
  constructor
  · intro h; exact cn_mono h (fun x hx => ((hT x).mp hx).1)
  · intro h
    refine (h.2 (fun x => cn T' c p x) (cn_rf hp) (fun a b qa ta tb hab => ?_))
    have ha := ((hT a).mp (cn_in qa).2).2
    exact cn_st qa ((hT b).mpr ⟨tb, fun z => ha (cn_st z ta (adj_sym hab))⟩) hab
theorem NC_step {T T' : Int × Int → Prop} {c : Bool} {s : Int × Int} {n : Nat} (hs : T s) (hT : ∀ x, T' x ↔ T x ∧ ¬ cn T c s x) (h : NC T' c n) : NC T c (n + 1) := by
  obtain ⟨l, h1, h2, h3, h4⟩ := h
  refine ⟨s :: l, by rw [List.length_cons, h1], fun p hp => ?_, ?_, fun x hx => ?_⟩
  · rcases List.mem_cons.mp hp with z | z
    · rw [z]; exact hs
    · exact ((hT p).mp (h2 p z)).1
  · rw [List.pairwise_cons]
    refine ⟨fun p hp => ((hT p).mp (h2 p hp)).2, ?_⟩
    refine h3.imp_of_mem (fun {p q} hp hq h z => h ((cn_rest hT (h2 p hp)).mpr z))
  · by_cases c9 : cn T c s x
    · exact ⟨s, List.mem_cons_self, c9⟩
    · obtain ⟨p, hp, h5⟩ := h4 x ((hT x).mpr ⟨hx, c9⟩)
      exact ⟨p, List.mem_cons_of_mem _ hp, (cn_rest hT (h2 p hp)).mp h5⟩
/-! the reference's floods: 26 rows of 26 bits, in the board's coordinates -/
def M26 (P : Nat → Nat) (p : Int × Int) : Prop := 0 ≤ p.1 + 1 ∧ 0 ≤ p.2 + 1 ∧ p.2 + 1 < 26 ∧ (P (p.2 + 1).toNat).testBit (p.1 + 1).toNat = true
theorem M26_nat (P : Nat → Nat) {i y : Nat} (hy : y < 26) : M26 P (((i : Nat) : Int) - 1, ((y : Nat) : Int) - 1) ↔ (P y).testBit i = true := by
  unfold M26
  dsimp only
  rw [show (((y : Nat) : Int) - 1 + 1).toNat = y by omega, show (((i : Nat) : Int) - 1 + 1).toNat = i by omega]
  exact ⟨fun h => h.2.2.2, fun h => ⟨by omega, by omega, by omega, h⟩⟩
theorem nr_iff (c : Bool) (own below above i : Nat) : (nr c own below above).testBit i = true ↔ own.testBit i = true ∨ (1 ≤ i ∧ own.testBit (i - 1) = true) ∨ own.testBit (i + 1) = true ∨ below.testBit i = true ∨ above.testBit i = true ∨ (c = true ∧ ((1 ≤ i ∧ (below.testBit (i - 1) = true ∨ above.testBit (i - 1) = true)) ∨ below.testBit (i + 1) = true ∨ above.testBit (i + 1) = true)) := by
  have e : i + 1 = 1 + i := by omega
  unfold nr nb
  cases c
  · rw [if_neg Bool.false_ne_true]
    simp only [Nat.testBit_or, Nat.testBit_shiftLeft, Nat.testBit_shiftRight, Bool.or_eq_true, Bool.and_eq_true, decide_eq_true_eq, e, Bool.false_eq_true, false_and, or_false, ge_iff_le]
    rw [or_assoc, or_assoc, or_assoc]
  · rw [if_pos rfl]
    simp only [Nat.testBit_or, Nat.testBit_shiftLeft, Nat.testBit_shiftRight, Bool.or_eq_true, Bool.and_eq_true, decide_eq_true_eq, e, true_and, ge_iff_le]
    rw [or_assoc, or_assoc, or_assoc, or_assoc]
theorem fl_bit {c : Bool} {T P0 P : Nat → Nat} (hT : ∀ y, y < 26 → T y < 67108864) (h : FL c T P0 P) {s : Int × Int} (hs : M26 T s) (h0 : ∀ p, M26 P0 p ↔ p = s) (p : Int × Int) : M26 P p ↔ cn (M26 T) c s p := by
  obtain ⟨⟨f1, f2, f3⟩, f4⟩ := h
  constructor
  · -- the least closed set
    intro hp
    obtain ⟨Q, hQ⟩ : ∃ Q : Nat → Nat, ∀ y i, y < 26 → ((Q y).testBit i = true ↔ i < 26 ∧ cn (M26 T) c s (((i : Nat) : Int) - 1, ((y : Nat) : Int) - 1)) := by
      refine ⟨fun y => msk (fun i => @decide (cn (M26 T) c s (((i : Nat) : Int) - 1, ((y : Nat) : Int) - 1)) (Classical.propDecidable _)) 26, fun y i hy => ?_⟩
      rw [msk_bit, Bool.and_eq_true, decide_eq_true_eq, @decide_eq_true_iff _ (Classical.propDecidable _)]
    have hP0 : fsub P0 Q := by
      intro y hy i hi
      have h1 := (h0 _).mp ((M26_nat P0 hy).mpr hi)
      have hit : (T y).testBit i = true := by rw [← h1] at hs; exact (M26_nat T hy).mp hs
      rw [hQ y i hy]
      exact ⟨bit_lt (k := 26) (hT y hy) hit, by rw [h1]; exact cn_rf hs⟩
    have hcl : fcl c T Q := by
      intro y hy i hi
      rw [Nat.testBit_and, Bool.and_eq_true] at hi
      obtain ⟨hn, ht⟩ := hi
      have hiT := (M26_nat T hy).mpr ht
      have hi26 := bit_lt (k := 26) (hT y hy) ht
      rw [hQ y i hy]
      refine ⟨hi26, ?_⟩
      have near : ∀ y' i', y' < 26 → (Q y').testBit i' = true → adj c (((i' : Nat) : Int) - 1, ((y' : Nat) : Int) - 1) (((i : Nat) : Int) - 1, ((y : Nat) : Int) - 1) → cn (M26 T) c s (((i : Nat) : Int) - 1, ((y : Nat) : Int) - 1) :=
        fun y' i' hy' hb ha => cn_st ((hQ y' i' hy').mp hb).2 hiT ha
      have hB : ∀ k, (nB Q y).testBit k = true → 0 < y ∧ (Q (y - 1)).testBit k = true := by
        intro k hk
        unfold nB at hk
        by_cases c9 : 0 < y
        · rw [if_pos c9] at hk; exact ⟨c9, hk⟩
        · rw [if_neg c9, Nat.zero_testBit] at hk; cases hk
      have hA : ∀ k, (nA Q y).testBit k = true → y < 25 ∧ (Q (y + 1)).testBit k = true := by
        intro k hk
        unfold nA at hk
        by_cases c9 : y < 25
        · rw [if_pos c9] at hk; exact ⟨c9, hk⟩
        · rw [if_neg c9, Nat.zero_testBit] at hk; cases hk
      rw [nrP, nr_iff] at hn
      rcases hn with z | ⟨z1, z⟩ | z | z | z | ⟨z0, ⟨z1, z | z⟩ | z | z⟩
      · exact near y i hy z ⟨by dsimp only; omega, by dsimp only; omega, Or.inr (Or.inl rfl)⟩
      · exact near y (i - 1) hy z ⟨by dsimp only; omega, by dsimp only; omega, Or.inr (Or.inr rfl)⟩
      · exact near y (i + 1) hy z ⟨by dsimp only; omega, by dsimp only; omega, Or.inr (Or.inr rfl)⟩
      · obtain ⟨b1, b2⟩ := hB _ z; exact near (y - 1) i (by omega) b2 ⟨by dsimp only; omega, by dsimp only; omega, Or.inr (Or.inl rfl)⟩
      · obtain ⟨b1, b2⟩ := hA _ z; exact near (y + 1) i (by omega) b2 ⟨by dsimp only; omega, by dsimp only; omega, Or.inr (Or.inl rfl)⟩
      · obtain ⟨b1, b2⟩ := hB _ z; exact near (y - 1) (i - 1) (by omega) b2 ⟨by dsimp only; omega, by dsimp only; omega, Or.inl z0⟩
      · obtain ⟨b1, b2⟩ := hA _ z; exact near (y + 1) (i - 1) (by omega) b2 ⟨by dsimp only; omega, by dsimp only; omega, Or.inl z0⟩
      · obtain ⟨b1, b2⟩ := hB _ z; exact near (y - 1) (i + 1) (by omega) b2 ⟨by dsimp only; omega, by dsimp only; omega, Or.inl z0⟩
      · obtain ⟨b1, b2⟩ := hA _ z; exact near (y + 1) (i + 1) (by omega) b2 ⟨by dsimp only; omega, by dsimp only; omega, Or.inl z0⟩
    obtain ⟨p1, p2, p3, p4⟩ := id hp
    have h5 := f3 Q hP0 hcl (p.2 + 1).toNat (by omega) (p.1 + 1).toNat p4
    have h6 := ((hQ _ _ (by omega)).mp h5).2
    rwa [show ((((p.1 + 1).toNat : Nat) : Int) - 1, (((p.2 + 1).toNat : Nat) : Int) - 1) = p from Prod.ext (by dsimp only; omega) (by dsimp only; omega)] at h6
  · intro hp
    refine hp.2 (fun x => M26 P x) ?_ (fun a b qa ta tb hab => ?_)
    · obtain ⟨s1, s2, s3, s4⟩ := (h0 s).mpr rfl
      exact ⟨s1, s2, s3, f1 _ (by omega) _ s4⟩
    · obtain ⟨a1, a2, a3, a4⟩ := qa
      obtain ⟨b1, b2, b3, b4⟩ := tb
      obtain ⟨j1, j2, j3⟩ := hab
      refine ⟨b1, b2, b3, f4 (b.2 + 1).toNat (by omega) (b.1 + 1).toNat ?_⟩
      rw [Nat.testBit_and, Bool.and_eq_true]
      refine ⟨?_, b4⟩
      obtain ⟨i, hi⟩ : ∃ i, i = (b.1 + 1).toNat := ⟨_, rfl⟩
      obtain ⟨y, hy⟩ : ∃ y, y = (b.2 + 1).toNat := ⟨_, rfl⟩
      obtain ⟨i', hi'⟩ : ∃ i, i = (a.1 + 1).toNat := ⟨_, rfl⟩
      obtain ⟨y', hy'⟩ : ∃ y, y = (a.2 + 1).toNat := ⟨_, rfl⟩
      rw [← hi, ← hy]
      rw [← hi', ← hy'] at a4
      rw [nrP, nr_iff]
      have eB : ∀ k, 0 < y → y - 1 = y' → (P y').testBit k = true → (nB P y).testBit k = true := fun k g1 g2 g3 => by
        unfold nB; rw [if_pos g1, g2]; exact g3
      have eA : ∀ k, y < 25 → y + 1 = y' → (P y').testBit k = true → (nA P y).testBit k = true := fun k g1 g2 g3 => by
        unfold nA; rw [if_pos g1, g2]; exact g3
      by_cases cy : y' = y
      · subst cy
        by_cases ci : i' = i
        · subst ci; exact Or.inl a4
        · by_cases ci2 : i' + 1 = i
          · exact Or.inr (Or.inl ⟨by omega, by rw [show i - 1 = i' by omega]; exact a4⟩)
          · exact Or.inr (Or.inr (Or.inl (by rw [show i + 1 = i' by omega]; exact a4)))
      · by_cases cy2 : y' + 1 = y
        · by_cases ci : i' = i
          · subst ci; exact Or.inr (Or.inr (Or.inr (Or.inl (eB _ (by omega) (by omega) a4))))
          · have hc : c = true := j3.elim id (fun h => h.elim (fun h => by omega) (fun h => by omega))
            refine Or.inr (Or.inr (Or.inr (Or.inr (Or.inr ⟨hc, ?_⟩))))
            by_cases ci2 : i' + 1 = i
            · exact Or.inl ⟨by omega, Or.inl (by rw [show i - 1 = i' by omega]; exact eB _ (by omega) (by omega) a4)⟩
            · exact Or.inr (Or.inl (by rw [show i + 1 = i' by omega]; exact eB _ (by omega) (by omega) a4))
        · by_cases ci : i' = i
          · subst ci; exact Or.inr (Or.inr (Or.inr (Or.inr (Or.inl (eA _ (by omega) (by omega) a4)))))
          · have hc : c = true := j3.elim id (fun h => h.elim (fun h => by omega) (fun h => by omega))
            refine Or.inr (Or.inr (Or.inr (Or.inr (Or.inr ⟨hc, ?_⟩))))
            by_cases ci2 : i' + 1 = i
            · exact Or.inl ⟨by omega, Or.inr (by rw [show i - 1 = i' by omega]; exact eA _ (by omega) (by omega) a4)⟩
            · exact Or.inr (Or.inr (by rw [show i + 1 = i' by omega]; exact eA _ (by omega) (by omega) a4))
/-- the lowest bit alone -/
theorem low_one {v : Nat} (h : v ≠ 0) : ∃ t, v.testBit t = true ∧ ∀ i, (pb_dif v (v - 1)).testBit i = true ↔ i = t := by
  obtain ⟨t, h1, h2⟩ := low_bit v (by omega)
  refine ⟨t, h1, fun i => ?_⟩
  -- bits of v-1 and v: below t differ, at t v alone, above the same
  have key : ∀ v : Nat, v ≠ 0 → ∃ t, ∀ i, (pb_dif v (v - 1)).testBit i = true ↔ i = t := by
    intro v
    induction v using Nat.strongRecOn with
    | _ v ih =>
      intro hv
      by_cases e : v % 2 = 1
      · refine ⟨0, fun i => ?_⟩
        rw [pb_dif_bit]
        cases i with
        | zero => rw [Nat.testBit_zero, Nat.testBit_zero, e, show (v - 1) % 2 = 0 by omega]; simp
        | succ i => rw [Nat.testBit_succ, Nat.testBit_succ, show (v - 1) / 2 = v / 2 by omega]; cases (v / 2).testBit i <;> simp
      · obtain ⟨t, ht⟩ := ih (v / 2) (by omega) (by omega)
        refine ⟨t + 1, fun i => ?_⟩
        rw [pb_dif_bit]
        cases i with
        | zero => rw [Nat.testBit_zero, show v % 2 = 0 by omega]; simp
        | succ i =>
          rw [Nat.testBit_succ, Nat.testBit_succ, show (v - 1) / 2 = v / 2 - 1 by omega, ← pb_dif_bit, ht i]
          omega
  obtain ⟨t', ht'⟩ := key v h
  have ht : t' = t := by
    have h3 := (ht' t).mp ?_
    · exact h3.symm
    · rw [pb_dif_bit, h1, Bool.true_and]
      have h4 := congrArg (fun z => z.testBit t) h2
      simp only [pb_dif_bit, Nat.testBit_two_pow_sub_one, h1] at h4
      -- bit t of v - 1: from all its bits below t and the equality it is unset
      have h5 : (pb_dif v (v - 1)) ≠ 0 := (dif_pred h).2
      obtain ⟨j, hj⟩ := bit_of_ne h5
      have hj2 := (ht' j).mp hj
      rw [pb_dif_bit, Bool.and_eq_true] at hj
      by_cases c9 : j = t
      · rw [← c9]; exact hj.2
      · exfalso
        have h6 := congrArg (fun z => z.testBit j) h2
        simp only [pb_dif_bit, Nat.testBit_two_pow_sub_one, hj.1] at h6
        have h7 : ¬ j < t := by
          intro z; rw [decide_eq_true z] at h6; simp at h6
        -- below j all bits of v are zero, so bit t < j would be
        have h8 : ∀ v : Nat, ∀ j t : Nat, v.testBit j = true → (v - 1).testBit j = false → t < j → v.testBit t = false := by
          intro v
          induction v using Nat.strongRecOn with
          | _ v ih =>
            intro j t g1 g2 g3
            by_cases e : v % 2 = 1
            · exfalso
              cases j with
              | zero => omega
              | succ j =>
                rw [Nat.testBit_succ] at g1 g2
                rw [show (v - 1) / 2 = v / 2 by omega, g1] at g2; cases g2
            · cases t with
              | zero => rw [Nat.testBit_zero, show v % 2 = 0 by omega]; rfl
              | succ t =>
                cases j with
                | zero => omega
                | succ j =>
                  rw [Nat.testBit_succ] at g1 g2 ⊢
                  have hv0 : v ≠ 0 := by intro z; rw [z] at g1; simp at g1
                  rw [show (v - 1) / 2 = v / 2 - 1 by omega] at g2
                  exact ih (v / 2) (by omega) j t g1 g2 (by omega)
        have h9 := h8 v j t hj.1 (by simpa using hj.2) (by omega)
        rw [h9] at h1; cases h1
  rw [ht' i, ht]
/-- the reference's count of pieces -/
theorem PC_NC {c : Bool} : ∀ (n : Nat) (T : Nat → Nat), (∀ y, y < 26 → T y < 67108864) → PCr c n T → NC (M26 T) c n := by
  intro n
  induction n with
  | zero =>
    intro T hT h
    refine NC_0 (fun x hx => ?_)
    obtain ⟨x1, x2, x3, x4⟩ := hx
    rw [h _ (by omega), Nat.zero_testBit] at x4
    cases x4
  | succ n ih =>
    intro T hT h
    obtain ⟨y, P0, P, T', hy, hz, hne, hP0, hFL, hT', hPC⟩ := h
    obtain ⟨t, ht1, ht2⟩ := low_one hne
    have hs : M26 T (((t : Nat) : Int) - 1, ((y : Nat) : Int) - 1) := (M26_nat T hy).mpr ht1
    have h0 : ∀ p, M26 P0 p ↔ p = (((t : Nat) : Int) - 1, ((y : Nat) : Int) - 1) := by
      intro p
      constructor
      · rintro ⟨p1, p2, p3, p4⟩
        rw [hP0 _ (by omega)] at p4
        by_cases e : (p.2 + 1).toNat = y
        · rw [if_pos e, ht2] at p4
          exact Prod.ext (by dsimp only; omega) (by dsimp only; omega)
        · rw [if_neg e, Nat.zero_testBit] at p4; cases p4
      · intro e
        rw [e, M26_nat P0 hy, hP0 y hy, if_pos rfl]
        exact (ht2 t).mpr rfl
    have hfl := fl_bit hT hFL hs h0
    have hTT : ∀ x, M26 T' x ↔ M26 T x ∧ ¬ cn (M26 T) c (((t : Nat) : Int) - 1, ((y : Nat) : Int) - 1) x := by
      intro x
      rw [← hfl x]
      unfold M26
      constructor
      · rintro ⟨x1, x2, x3, x4⟩
        rw [hT' _ (by omega), pb_dif_bit, Bool.and_eq_true] at x4
        exact ⟨⟨x1, x2, x3, x4.1⟩, fun z => by rw [z.2.2.2] at x4; exact absurd x4.2 (by decide)⟩
      · rintro ⟨⟨x1, x2, x3, x4⟩, x5⟩
        refine ⟨x1, x2, x3, ?_⟩
        rw [hT' _ (by omega), pb_dif_bit, x4, Bool.true_and]
        cases hb : (P (x.2 + 1).toNat).testBit (x.1 + 1).toNat
        · rfl
        · exact absurd ⟨x1, x2, x3, hb⟩ x5
    refine NC_step hs hTT (ih T' (fun y9 hy9 => ?_) hPC)
    rw [hT' y9 hy9]
    exact (dif_bs _ _).lt (n := 26) (hT y9 hy9)
