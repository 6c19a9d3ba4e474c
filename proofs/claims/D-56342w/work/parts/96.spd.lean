set_option maxRecDepth 100000
/-! PLAIN LAWS: parts by rectangles, and a part's region -/
/-- the first j bands with other rows -/
def bdI (L : List Bnd) (E' : Nat → List Int) (j : Nat) (R : List Bnd) : Prop :=
  cbL R ∧ (∀ t, (∀ q, q < j → (bd L q).2.1 ≤ t) → tbL R t) ∧ (∀ q, q < j → ∀ y, (bd L q).1 ≤ y → y < (bd L q).2.1 → rowL R y = E' q) ∧ ∀ y, (∀ q, q < j → ¬ ((bd L q).1 ≤ y ∧ y < (bd L q).2.1)) → rowL R y = []
theorem bdI_0 (L : List Bnd) (E' : Nat → List Int) : bdI L E' 0 [] := ⟨cb_nil, fun _ _ => Or.inl rfl, fun q hq => absurd hq (Nat.not_lt_zero _), fun _ _ => rfl⟩
theorem bdI_s {L : List Bnd} (h : cbL L) {E' : Nat → List Int} {j : Nat} {R : List Bnd} (hI : bdI L E' j R) (hj : j < L.length) (hE : cnE (E' j)) : bdI L E' (j + 1) (radd R (bd L j).1 (bd L j).2.1 (E' j)) := by
  obtain ⟨h1, h2, h3, h4⟩ := hI
  have hb := h.1 j hj
  have hup : ∀ q, q < j → (bd L q).2.1 ≤ (bd L j).1 := fun q hq => cb_up h hq hj
  obtain ⟨r1, r2, r3⟩ := ra_set h1 (hi := (bd L j).2.1) (h2 (bd L j).1 hup) hE
  refine ⟨r1, fun t ht => ?_, fun q hq y y1 y2 => ?_, fun y hy => ?_⟩
  · have := ht j (by omega)
    exact r3 t (by omega) this
  · rw [r2 y]
    by_cases e : q = j
    · subst e; rw [if_pos ⟨y1, y2⟩]
    · have := hup q (by omega)
      rw [if_neg (by omega)]
      exact h3 q (by omega) y y1 y2
  · rw [r2 y, if_neg (hy j (by omega))]
    exact h4 y (fun q hq => hy q (by omega))
theorem coR_iff (a : Rct) (x y : Int) : coR a x y = true ↔ inC a (x, y) := by
  unfold coR inC
  rw [Bool.and_eq_true, decide_eq_true_eq, decide_eq_true_eq]
  dsimp only
  constructor <;> intro h <;> omega
section PRT2
variable {L : List Bnd} {g : Nat → Nat} {RR : List Rct} {ro : Nat → Nat} {p : Int}
theorem pt_rc (hs : scL paS L ([], fun _ => 0, 0) L.length = (RR, ro, p)) : RR.length = cntR L L.length ∧ (∀ j i, j < L.length → i < (bE L j).length / 2 → rc RR (cntR L j + i) = rcB L j i) ∧ ufS (RR, ro, p) := by
  have h1 := scL_len L ([], fun _ => 0, 0) L.length
  have h2 := sl_rc L L.length
  have h3 := scL_uf L L.length
  rw [hs] at h1 h2 h3
  exact ⟨by rw [h1]; exact Nat.zero_add _, fun j i hj hi => h2 j hj i hi, h3⟩
theorem pt_at (hs : scL paS L ([], fun _ => 0, 0) L.length = (RR, ro, p)) {m : Nat} (hm : m < RR.length) : ∃ j i, j < L.length ∧ i < (bE L j).length / 2 ∧ m = cntR L j + i ∧ rc RR m = rcB L j i := by
  obtain ⟨h1, h2, h3⟩ := pt_rc hs
  obtain ⟨j, i, a, b, c⟩ := idx_ex L L.length m (by omega)
  exact ⟨j, i, a, b, c, by rw [c]; exact h2 j i a b⟩
theorem pt_lt (hs : scL paS L ([], fun _ => 0, 0) L.length = (RR, ro, p)) {j i : Nat} (hj : j < L.length) (hi : i < (bE L j).length / 2) : cntR L j + i < RR.length := by
  have := (pt_rc hs).1
  have h2 := cntR_le L (show j + 1 ≤ L.length by omega)
  rw [cntR] at h2
  omega
theorem pt_u (hr : rs L (gc g)) (hs : scL paS L ([], fun _ => 0, 0) L.length = (RR, ro, p)) {a b : Nat} (ha : a < RR.length) (hb : b < RR.length) {q : Int × Int} (h1 : inC (rc RR a) q) (h2 : inC (rc RR b) q) : a = b := by
  obtain ⟨j, i, j1, i1, e1, r1⟩ := pt_at hs ha
  obtain ⟨j', i', j2, i2, e2, r2⟩ := pt_at hs hb
  rw [r1] at h1
  rw [r2] at h2
  obtain ⟨rfl, rfl⟩ := rcB_u hr j1 j2 i1 i2 h1 h2
  rw [e1, e2]
theorem pt_ex (hr : rs L (gc g)) (hs : scL paS L ([], fun _ => 0, 0) L.length = (RR, ro, p)) {q : Int × Int} (hq : gT g q) : ∃ b, b < RR.length ∧ inC (rc RR b) q := by
  obtain ⟨j, i, j1, i1, h⟩ := rcB_ex hr hq
  refine ⟨cntR L j + i, pt_lt hs j1 i1, ?_⟩
  rw [(pt_rc hs).2.1 j i j1 i1]; exact h
theorem pt_ord (hr : rs L (gc g)) (hs : scL paS L ([], fun _ => 0, 0) L.length = (RR, ro, p)) (x y : Nat) (hx : x < RR.length) (hy : y < RR.length) (h : unR (rc RR x) (rc RR y) = true) : x < y := by
  obtain ⟨j, i, j1, i1, e1, r1⟩ := pt_at hs hx
  obtain ⟨j', i', j2, i2, e2, r2⟩ := pt_at hs hy
  rw [r1, r2] at h
  have := rcB_un hr j1 j2 h
  have h2 := cntR_le L (show j + 1 ≤ j' by omega)
  rw [cntR] at h2
  omega
/-- a rectangle's first cell -/
def crB (RR : List Rct) (m : Nat) : Int × Int := ((rc RR m).1, (rc RR m).2.1)
theorem pt_cn (hg : gok g) (hr : rs L (gc g)) (hs : scL paS L ([], fun _ => 0, 0) L.length = (RR, ro, p)) {m : Nat} (hm : m < RR.length) {q : Int × Int} (hq : inC (rc RR m) q) : cn (gT g) false (crB RR m) q := by
  obtain ⟨j, i, j1, i1, e1, r1⟩ := pt_at hs hm
  unfold crB
  rw [r1] at hq ⊢
  exact rcB_cn hg hr j1 i1 hq
theorem pt_edge (hg : gok g) (hr : rs L (gc g)) (hs : scL paS L ([], fun _ => 0, 0) L.length = (RR, ro, p)) {a b : Nat} (ha : a < RR.length) (hb : b < RR.length) (h : unR (rc RR a) (rc RR b) = true) : cn (gT g) false (crB RR a) (crB RR b) := by
  obtain ⟨j, i, j1, i1, e1, r1⟩ := pt_at hs ha
  obtain ⟨j', i', j2, i2, e2, r2⟩ := pt_at hs hb
  have ia := rcB_in hg hr j1 i1
  have ib := rcB_in hg hr j2 i2
  rw [← r1] at ia
  rw [← r2] at ib
  unfold unR at h
  rw [decide_eq_true_eq] at h
  obtain ⟨x, hx⟩ : ∃ x, x = max (rc RR a).1 (rc RR b).1 := ⟨_, rfl⟩
  have c1 : inC (rc RR a) (x, (rc RR a).2.2.2 - 1) := ⟨⟨by dsimp only; omega, by dsimp only; omega⟩, by dsimp only; omega, by dsimp only; omega⟩
  have c2 : inC (rc RR b) (x, (rc RR b).2.1) := ⟨⟨by dsimp only; omega, by dsimp only; omega⟩, by dsimp only; omega, by dsimp only; omega⟩
  have h1 := pt_cn hg hr hs ha c1
  have h2 := pt_cn hg hr hs hb c2
  exact cn_tr (cn_st h1 (cn_in h2).2 ⟨by dsimp only; omega, by dsimp only; omega, Or.inr (Or.inl rfl)⟩) (cn_sy h2)
theorem pt_gcn (hg : gok g) (hr : rs L (gc g)) (hs : scL paS L ([], fun _ => 0, 0) L.length = (RR, ro, p)) {a b : Nat} (ha : a < RR.length) (hb : b < RR.length) : ro a = ro b ↔ cn (gT g) false (crB RR a) (crB RR b) := by
  obtain ⟨u1, u2, u3⟩ := pt_rc hs
  have hself : ∀ m, m < RR.length → inC (rc RR m) (crB RR m) := by
    intro m hm
    obtain ⟨j, i, j1, i1, e1, r1⟩ := pt_at hs hm
    have := rcB_in hg hr j1 i1
    unfold crB
    rw [r1]
    exact ⟨⟨Int.le_refl _, this.1⟩, Int.le_refl _, this.2.1⟩
  rw [uf_iff u3 ha hb (pt_ord hr hs)]
  constructor
  · intro h
    have h2 := h (fun y => y < RR.length ∧ cn (gT g) false (crB RR a) (crB RR y)) ⟨ha, pt_cn hg hr hs ha (hself a ha)⟩ (fun x y hx hxy => by
      rcases hxy with ⟨q1, q2, q3⟩ | ⟨q1, q2, q3⟩
      · exact ⟨q2, cn_tr hx.2 (pt_edge hg hr hs q1 q2 q3)⟩
      · exact ⟨q1, cn_tr hx.2 (cn_sy (pt_edge hg hr hs q1 q2 q3))⟩)
    exact h2.2
  · intro h
    have key := h.2 (fun q => ∀ m, m < RR.length → inC (rc RR m) q → gcn (fun x y => x < RR.length ∧ y < RR.length ∧ unR (rc RR x) (rc RR y) = true) a m) (fun m hm hq => by
      have := pt_u hr hs ha hm (hself a ha) hq
      rw [this]; exact gcn_rf _ _) (fun q q' hq tq tq' hadj m hm hq' => by
      obtain ⟨k, k1, k2⟩ := pt_ex hr hs tq
      have hk := hq k k1 k2
      obtain ⟨j, i, j1, i1, e1, r1⟩ := pt_at hs k1
      obtain ⟨j', i', j2, i2, e2, r2⟩ := pt_at hs hm
      have k3 := k2
      have hq3 := hq'
      rw [r1] at k2
      rw [r2] at hq'
      obtain ⟨⟨x1, x2⟩, x3, x4⟩ := k2
      obtain ⟨⟨y1, y2⟩, y3, y4⟩ := hq'
      obtain ⟨d1, d2, d3⟩ := hadj
      have hcb := hr.1
      by_cases ej : j = j'
      · -- the same band: then the same span
        subst ej
        have hc := (hcb.1 j j1).2.1
        have ei : i = i' := by
          unfold rcB at x1 x2 y1 y2
          dsimp only at x1 x2 y1 y2
          rcases Nat.lt_trichotomy i i' with z | z | z
          · have w1 := cn_lt hc (show 2 * i + 1 < 2 * i' by omega) (by omega); omega
          · exact z
          · have w1 := cn_lt hc (show 2 * i' + 1 < 2 * i by omega) (by omega); omega
        subst ei
        rw [e2, ← e1]; exact hk
      · -- bands upon one another
        have hx : q.1 = q'.1 := by
          apply Classical.byContradiction
          intro z
          have hy : q.2 = q'.2 := d3.elim (fun h => by cases h) (fun h => h.elim (fun h => absurd h z) id)
          unfold rcB at x3 x4 y3 y4
          dsimp only at x3 x4 y3 y4
          rcases Nat.lt_or_ge j j' with z2 | z2
          · have := cb_up hcb z2 j2; omega
          · have := cb_up hcb (show j' < j by omega) j1; omega
        have hu : unR (rc RR k) (rc RR m) = true ∨ unR (rc RR m) (rc RR k) = true := by
          rw [r1, r2]
          unfold unR rcB
          unfold rcB at x1 x2 x3 x4 y1 y2 y3 y4
          dsimp only at x1 x2 x3 x4 y1 y2 y3 y4
          rw [decide_eq_true_eq, decide_eq_true_eq]
          dsimp only
          rcases Nat.lt_or_ge j j' with z2 | z2
          · have := cb_up hcb z2 j2; left; omega
          · have := cb_up hcb (show j' < j by omega) j1; right; omega
        refine gcn_tr hk (gcn_ed ?_)
        rcases hu with z | z
        · exact Or.inl ⟨k1, hm, z⟩
        · exact Or.inr ⟨hm, k1, z⟩)
    exact key b hb (hself b hb)
/-- the roots' first cells -/
def rtL (RR : List Rct) (ro : Nat → Nat) : Nat → List (Int × Int)
  | 0 => []
  | k + 1 => if ro k = k then rtL RR ro k ++ [crB RR k] else rtL RR ro k
theorem rtL_len (RR : List Rct) (ro : Nat → Nat) (k : Nat) : (rtL RR ro k).length = clN ro k := by
  induction k with
  | zero => rfl
  | succ k ih =>
    rw [rtL, clN]
    split
    · rw [List.length_append, ih]; rfl
    · rw [ih]; rfl
theorem rtL_mem {RR : List Rct} {ro : Nat → Nat} {k : Nat} {q : Int × Int} : q ∈ rtL RR ro k ↔ ∃ i, i < k ∧ ro i = i ∧ q = crB RR i := by
  induction k with
  | zero => exact ⟨fun h => (by cases h), fun ⟨i, hi, _⟩ => absurd hi (Nat.not_lt_zero _)⟩
  | succ k ih =>
    rw [rtL]
    by_cases c : ro k = k
    · rw [if_pos c, List.mem_append, List.mem_singleton, ih]
      constructor
      · rintro (⟨i, a, b⟩ | a)
        · exact ⟨i, by omega, b⟩
        · exact ⟨k, by omega, c, a⟩
      · rintro ⟨i, a, b, d⟩
        by_cases e : i = k
        · subst e; exact Or.inr d
        · exact Or.inl ⟨i, by omega, b, d⟩
    · rw [if_neg c, ih]
      constructor
      · rintro ⟨i, a, b⟩; exact ⟨i, by omega, b⟩
      · rintro ⟨i, a, b, d⟩
        by_cases e : i = k
        · subst e; exact absurd b c
        · exact ⟨i, by omega, b, d⟩
theorem pt_NC (hg : gok g) (hr : rs L (gc g)) (hs : scL paS L ([], fun _ => 0, 0) L.length = (RR, ro, p)) : NC (gT g) false (clN ro RR.length) := by
  obtain ⟨u1, u2, u3⟩ := pt_rc hs
  obtain ⟨v1, v2, v3, v4⟩ := u3
  refine ⟨rtL RR ro RR.length, rtL_len RR ro _, fun q hq => ?_, ?_, fun q hq => ?_⟩
  · obtain ⟨i, i1, i2, rfl⟩ := rtL_mem.mp hq
    exact (cn_in ((pt_gcn hg hr hs i1 i1).mp rfl)).1
  · have key : ∀ k, k ≤ RR.length → (rtL RR ro k).Pairwise (fun p q => ¬ cn (gT g) false p q) := by
      intro k
      induction k with
      | zero => intro _; exact List.Pairwise.nil
      | succ k ih =>
        intro hk
        rw [rtL]
        by_cases c : ro k = k
        · rw [if_pos c, List.pairwise_append]
          refine ⟨ih (by omega), List.pairwise_singleton _ _, fun a ha b hb => ?_⟩
          obtain ⟨i, i1, i2, rfl⟩ := rtL_mem.mp ha
          rw [List.mem_singleton.mp hb]
          intro z
          have := (pt_gcn hg hr hs (show i < RR.length by omega) (show k < RR.length by omega)).mpr z
          rw [i2, c] at this
          omega
        · rw [if_neg c]; exact ih (by omega)
    exact key _ (Nat.le_refl _)
  · obtain ⟨b, b1, b2⟩ := pt_ex hr hs hq
    have hb := v2 b b1
    refine ⟨crB RR (ro b), rtL_mem.mpr ⟨ro b, hb.1, hb.2, rfl⟩, ?_⟩
    exact cn_tr ((pt_gcn hg hr hs hb.1 b1).mp hb.2) (pt_cn hg hr hs b1 b2)
theorem pt_law (hg : gok g) (hr : rs L (gc g)) (hs : scL paS L ([], fun _ => 0, 0) L.length = (RR, ro, p)) {n : Nat} (h : NC (gT g) false n) : p = ((n : Nat) : Int) := by
  have h1 := (pt_rc hs).2.2.1
  have h2 := NC_u h (pt_NC hg hr hs)
  dsimp only at h1
  rw [h1, h2]
theorem paK_law (hr : rs L (gc g)) (hs : scL paS L ([], fun _ => 0, 0) L.length = (RR, ro, p)) {b : Nat} (hb : b < RR.length) {x y : Int} (hin : inC (rc RR b) (x, y)) : paK RR ro x y RR.length = some (ro b) := by
  have key : ∀ k, b < k → k ≤ RR.length → paK RR ro x y k = some (ro b) := by
    intro k
    induction k with
    | zero => intro h; omega
    | succ k ih =>
      intro h1 h2
      rw [paK]
      by_cases c : coR (rc RR k) x y = true
      · rw [if_pos c]
        have := pt_u hr hs (show k < RR.length by omega) hb ((coR_iff _ _ _).mp c) hin
        rw [this]
      · rw [if_neg c]
        by_cases e : b = k
        · subst e; exact absurd ((coR_iff _ _ _).mpr hin) c
        · exact ih (by omega) (by omega)
  exact key _ hb (Nat.le_refl _)
theorem paK_none (hg : gok g) (hr : rs L (gc g)) (hs : scL paS L ([], fun _ => 0, 0) L.length = (RR, ro, p)) {x y : Int} (h : ¬ gT g (x, y)) : paK RR ro x y RR.length = none := by
  have key : ∀ k, k ≤ RR.length → paK RR ro x y k = none := by
    intro k
    induction k with
    | zero => intro _; rfl
    | succ k ih =>
      intro h2
      rw [paK, if_neg (fun c => ?_)]
      · exact ih (by omega)
      · obtain ⟨j, i, j1, i1, e1, r1⟩ := pt_at hs (show k < RR.length by omega)
        have := (coR_iff _ _ _).mp c
        rw [r1] at this
        exact h ((rcB_in hg hr j1 i1).2.2 _ this)
  exact key _ (Nat.le_refl _)
theorem roE_set (hr : rs L (gc g)) (hs : scL paS L ([], fun _ => 0, 0) L.length = (RR, ro, p)) {j : Nat} (hj : j < L.length) (i0 k : Nat) (hk : k ≤ (bE L j).length / 2) : cnE (roE RR ro i0 (cntR L j) k) ∧ (∀ x, mE (roE RR ro i0 (cntR L j) k) x = true ↔ ∃ q, q < k ∧ ro (cntR L j + q) = i0 ∧ eE (bE L j) (2 * q) ≤ x ∧ x < eE (bE L j) (2 * q + 1)) ∧ ∀ l, (∀ q, q < k → eE (bE L j) (2 * q) ≤ l) → lsE (roE RR ro i0 (cntR L j) k) l := by
  have hc := (hr.1.1 j hj).2.1
  induction k with
  | zero => exact ⟨cn_nil, fun x => ⟨fun h => absurd (show mE [] x = true from h) (by rw [mE_nil]; exact Bool.false_ne_true), fun ⟨q, hq, _⟩ => absurd hq (Nat.not_lt_zero _)⟩, fun l _ => ls_nil l⟩
  | succ k ih =>
    obtain ⟨h1, h2, h3⟩ := ih (by omega)
    have hrc := (pt_rc hs).2.1 j k hj (by omega)
    have e1 : (rc RR (cntR L j + k)).1 = eE (bE L j) (2 * k) := by rw [hrc]; rfl
    have e2 : (rc RR (cntR L j + k)).2.2.1 = eE (bE L j) (2 * k + 1) := by rw [hrc]; rfl
    rw [roE, e1, e2]
    have hl := h3 (eE (bE L j) (2 * k)) (fun q hq => Int.le_of_lt (cn_lt hc (show 2 * q < 2 * k by omega) (by omega)))
    refine ⟨(sp_add h1 hl).1, fun x => ?_, fun l h4 => (sp_add h1 hl).2.2 l (h4 k (by omega))⟩
    rw [sp_add_iff h1 hl, h2 x]
    constructor
    · rintro (⟨q, a, b⟩ | a)
      · exact ⟨q, by omega, b⟩
      · by_cases c : ro (cntR L j + k) = i0
        · rw [if_pos c] at a; exact ⟨k, by omega, c, a⟩
        · rw [if_neg c] at a; omega
    · rintro ⟨q, a, b, c⟩
      by_cases e : q = k
      · subst e; rw [if_pos b]; exact Or.inr c
      · exact Or.inl ⟨q, by omega, b, c⟩
theorem rgS_inv (hr : rs L (gc g)) (hs : scL paS L ([], fun _ => 0, 0) L.length = (RR, ro, p)) (i0 : Nat) : ∀ n i R, rgS RR ro i0 n i R → n ≤ L.length ∧ i = cntR L n ∧ bdI L (fun j => roE RR ro i0 (cntR L j) ((bE L j).length / 2)) n R := by
  obtain ⟨u1, u2, u3⟩ := pt_rc hs
  have hpos : ∀ j, j < L.length → 1 ≤ (bE L j).length / 2 := fun j hj => by have := (hr.1.1 j hj).2.2; omega
  intro n
  induction n with
  | zero =>
    rintro i R ⟨h1, h2⟩
    rw [h1, h2]
    exact ⟨Nat.zero_le _, rfl, bdI_0 _ _⟩
  | succ n ih =>
    rintro i R ⟨i1, c, R1, h1, h2, h3, h4, h5, h6, h7⟩
    obtain ⟨k1, k2, k3⟩ := ih i1 R1 h1
    have hn : n < L.length := by
      apply Classical.byContradiction
      intro z
      rw [show n = L.length by omega] at k2
      omega
    have hl := hpos n hn
    have low : ∀ q, q < (bE L n).length / 2 → (rc RR (cntR L n + q)).2.1 = (bd L n).1 := fun q hq => by rw [u2 n q hn hq]; rfl
    have low0 : (rc RR i1).2.1 = (bd L n).1 := by have := low 0 (by omega); rwa [Nat.add_zero, ← k2] at this
    have nxt : n + 1 < L.length → (rc RR (cntR L (n + 1))).2.1 ≠ (bd L n).1 := by
      intro hn1
      have := u2 (n + 1) 0 hn1 (by have := hpos (n + 1) hn1; omega)
      rw [Nat.add_zero] at this
      rw [this]
      show (bd L (n + 1)).1 ≠ _
      have := (hr.1.2 n hn1).1
      have := (hr.1.1 n hn).1
      omega
    have hc : c = (bE L n).length / 2 := by
      rcases Nat.lt_trichotomy c ((bE L n).length / 2) with z | z | z
      · exfalso
        rcases h6 with w | w
        · have := pt_lt hs hn z; omega
        · apply w
          rw [low0, h4, k2]
          exact low c z
      · exact z
      · exfalso
        have h8 := h5 ((bE L n).length / 2) z
        rw [low0, k2] at h8
        have e9 : cntR L n + (bE L n).length / 2 = cntR L (n + 1) := rfl
        rw [e9] at h8
        have hn1 : n + 1 < L.length := by
          apply Classical.byContradiction
          intro w
          rw [show n + 1 = L.length by omega] at h8
          omega
        exact nxt hn1 h8.2
    have hi0 : (rc RR i1).2.2.2 = (bd L n).2.1 := by
      have := u2 n 0 hn (by omega)
      rw [Nat.add_zero, ← k2] at this
      rw [this]; rfl
    refine ⟨by omega, by rw [h4, k2, hc]; rfl, ?_⟩
    rw [h7, low0, hi0, k2, hc]
    exact bdI_s hr.1 k3 hn (roE_set hr hs hn i0 _ (Nat.le_refl _)).1
theorem keep_law (hg : gok g) (hr : rs L (gc g)) (hs : scL paS L ([], fun _ => 0, 0) L.length = (RR, ro, p)) {b : Nat} (hb : b < RR.length) {s : Int × Int} (hin : inC (rc RR b) s) {n : Nat} {R : List Bnd} (hR : rgS RR ro (ro b) n RR.length R) : cbL R ∧ ∀ x y, mE (rowL R y) x = true ↔ cn (gT g) false s (x, y) := by
  obtain ⟨k1, k2, k3, k4, k5, k6⟩ := rgS_inv hr hs (ro b) n _ R hR
  obtain ⟨u1, u2, u3⟩ := pt_rc hs
  have hn : n = L.length := by
    apply Classical.byContradiction
    intro z
    have h1 := cntR_le L (show n + 1 ≤ L.length by omega)
    rw [cntR] at h1
    have := (hr.1.1 n (by omega)).2.2
    omega
  subst hn
  have hsb := cn_sy (pt_cn hg hr hs hb hin)
  refine ⟨k3, fun x y => ?_⟩
  constructor
  · intro h
    by_cases c : ∃ q, q < L.length ∧ (bd L q).1 ≤ y ∧ y < (bd L q).2.1
    · obtain ⟨q, q1, q2, q3⟩ := c
      rw [k5 q q1 y q2 q3, (roE_set hr hs q1 (ro b) _ (Nat.le_refl _)).2.1 x] at h
      obtain ⟨i, i1, i2, i3, i4⟩ := h
      have hm := pt_lt hs q1 i1
      have hci : inC (rc RR (cntR L q + i)) (x, y) := by rw [u2 q i q1 i1]; exact ⟨⟨i3, i4⟩, q2, q3⟩
      exact cn_tr hsb (cn_tr ((pt_gcn hg hr hs hb hm).mp i2.symm) (pt_cn hg hr hs hm hci))
    · rw [k6 y (fun q hq z => c ⟨q, hq, z⟩), mE_nil] at h; cases h
  · intro h
    obtain ⟨m, m1, m2⟩ := pt_ex hr hs (cn_in h).2
    obtain ⟨j, i, j1, i1, e1, r1⟩ := pt_at hs m1
    have hro : ro b = ro m := (pt_gcn hg hr hs hb m1).mpr (cn_tr (cn_sy hsb) (cn_tr h (cn_sy (pt_cn hg hr hs m1 m2))))
    rw [r1] at m2
    obtain ⟨⟨x1, x2⟩, x3, x4⟩ := m2
    rw [k5 j j1 y x3 x4, (roE_set hr hs j1 (ro b) _ (Nat.le_refl _)).2.1 x]
    exact ⟨i, i1, by rw [← e1, hro], x1, x2⟩
/-- how many rectangles have the same low side -/
theorem same_len (hg : gok g) (hr : rs L (gc g)) (hs : scL paS L ([], fun _ => 0, 0) L.length = (RR, ro, p)) (i c : Nat) (h : sameLow RR i c) : 2 * c ≤ 64 := by
  by_cases hc : c = 0
  · omega
  · have h0 := (h 0 (by omega)).1
    rw [Nat.add_zero] at h0
    obtain ⟨j, k, j1, k1, e1, r1⟩ := pt_at hs h0
    have hlast := h (c - 1) (by omega)
    obtain ⟨j', k', j2, k2, e2, r2⟩ := pt_at hs hlast.1
    have hj : j = j' := by
      have hl := hlast.2
      rw [r2, r1] at hl
      have hl : (bd L j').1 = (bd L j).1 := hl
      rcases Nat.lt_trichotomy j j' with z | z | z
      · have := cb_up hr.1 z j2; have := (hr.1.1 j j1).1; omega
      · exact z
      · have := cb_up hr.1 z j1; have := (hr.1.1 j' j2).1; omega
    subst hj
    have := cn_len (hr.1.1 j j1).2.1 (rs_cols hr (gc_box hg) j1) (by decide)
    omega
end PRT2
