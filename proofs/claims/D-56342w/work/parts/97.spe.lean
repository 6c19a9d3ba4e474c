set_option maxRecDepth 100000
/-! PLAIN LAWS: ways -/
def gk (g : Nat → Nat) (k : Nat) : Prop := gc g ((k % 24 : Nat) : Int) ((k / 24 : Nat) : Int) = true
def nei (j k : Nat) : Prop := (0 < k % 24 ∧ j = k - 1) ∨ (k % 24 < 23 ∧ j = k + 1) ∨ (0 < k / 24 ∧ j = k - 24) ∨ (k / 24 < 23 ∧ j = k + 24)
theorem nei_lt {j k : Nat} (h : nei j k) (hk : k < 576) : j < 576 := by unfold nei at h; omega
theorem nei_sy {j k : Nat} (h : nei j k) (hk : k < 576) : nei k j := by unfold nei at h ⊢; omega
/-- reached within n steps -/
def lv (g : Nat → Nat) (a : Nat) : Nat → Nat → Prop
  | 0, k => k = a
  | n + 1, k => lv g a n k ∨ (gk g k ∧ ∃ j, lv g a n j ∧ nei j k)
theorem lv_up {g : Nat → Nat} {a n k : Nat} (h : lv g a n k) (m : Nat) : lv g a (n + m) k := by
  induction m with
  | zero => exact h
  | succ m ih => exact Or.inl ih
theorem lv_le {g : Nat → Nat} {a n m k : Nat} (h : lv g a n k) (hm : n ≤ m) : lv g a m k := by
  have := lv_up h (m - n)
  rwa [show n + (m - n) = m by omega] at this
theorem lvl_lt {g : Nat → Nat} (hg : gok g) {a : Nat} (ha : a < 576) : ∀ n k, lv g a n k → k < 576 := by
  intro n
  induction n with
  | zero => intro k h; rw [show k = a from h]; exact ha
  | succ n ih =>
    rintro k (h | ⟨h, j, h1, h2⟩)
    · exact ih k h
    · have := gc_in hg h; omega
def dst (g : Nat → Nat) (a v k : Nat) : Prop := lv g a v k ∧ ∀ u, u < v → ¬ lv g a u k
theorem dst_u {g : Nat → Nat} {a v w k : Nat} (h : dst g a v k) (h' : dst g a w k) : v = w := by
  rcases Nat.lt_trichotomy v w with z | z | z
  · exact absurd h.1 (h'.2 v z)
  · exact z
  · exact absurd h'.1 (h.2 w z)
/-- the reference: round by round -/
theorem bfs_lv {g : Nat → Nat} {a : Nat} (ha : a < 576) (old : Nat → Int) : ∀ n k, k < 576 → (lv g a n k → ∃ v : Nat, bfs g a old n k = ((v : Nat) : Int) ∧ dst g a v k ∧ v ≤ n) ∧ (¬ lv g a n k → bfs g a old n k = -1) := by
  intro n
  induction n with
  | zero =>
    intro k hk
    have e : bfs g a old 0 k = if k = a then 0 else -1 := by
      show va_up (mdZ (fun _ => -1) old 576) a 0 k = _
      unfold va_up mdZ
      by_cases c : k = a
      · rw [if_pos c, if_pos c]
      · rw [if_neg c, if_neg c, if_pos hk]
    rw [e]
    constructor
    · intro h
      rw [if_pos (show k = a from h)]
      exact ⟨0, rfl, ⟨h, fun u hu => absurd hu (Nat.not_lt_zero _)⟩, Nat.le_refl _⟩
    · intro h
      rw [if_neg (show ¬ k = a from h)]
  | succ n ih =>
    intro k hk
    have e : bfs g a old (n + 1) k = stp g n (bfs g a old n) k := by
      rw [bfs, mdZ, if_pos hk]
    obtain ⟨i1, i2⟩ := ih k hk
    rw [e]
    by_cases c : lv g a n k
    · obtain ⟨v, v1, v2, v3⟩ := i1 c
      have : stp g n (bfs g a old n) k = bfs g a old n k := stp_n (fun z => by rw [v1] at z; omega)
      rw [this]
      exact ⟨fun _ => ⟨v, v1, v2, by omega⟩, fun h => absurd (Or.inl c) h⟩
    · have hneg := i2 c
      by_cases hgk : gk g k
      · have one : ∀ j, nei j k → (bfs g a old n j = ((n : Nat) : Int) ↔ lv g a n j) := by
          intro j hj
          obtain ⟨j1, j2⟩ := ih j (nei_lt hj hk)
          constructor
          · intro z
            apply Classical.byContradiction
            intro z2
            rw [j2 z2] at z; omega
          · intro z
            obtain ⟨v, v1, v2, v3⟩ := j1 z
            rw [v1]
            have : v = n := by
              apply Classical.byContradiction
              intro z2
              have hk2 : lv g a (v + 1) k := Or.inr ⟨hgk, j, v2.1, hj⟩
              exact c (lv_le hk2 (by omega))
            rw [this]
        have hnx : nxtTo ((n : Nat) : Int) (bfs g a old n) k ↔ ∃ j, lv g a n j ∧ nei j k := by
          constructor
          · rintro (⟨z1, z2⟩ | ⟨z1, z2⟩ | ⟨z1, z2⟩ | ⟨z1, z2⟩)
            · have hj : nei (k - 1) k := Or.inl ⟨z1, rfl⟩
              exact ⟨_, (one _ hj).mp z2, hj⟩
            · have hj : nei (k + 1) k := Or.inr (Or.inl ⟨z1, rfl⟩)
              exact ⟨_, (one _ hj).mp z2, hj⟩
            · have hj : nei (k - 24) k := Or.inr (Or.inr (Or.inl ⟨z1, rfl⟩))
              exact ⟨_, (one _ hj).mp z2, hj⟩
            · have hj : nei (k + 24) k := Or.inr (Or.inr (Or.inr ⟨z1, rfl⟩))
              exact ⟨_, (one _ hj).mp z2, hj⟩
          · rintro ⟨j, h1, h2⟩
            have hv := (one j h2).mpr h1
            rcases h2 with ⟨z1, z2⟩ | ⟨z1, z2⟩ | ⟨z1, z2⟩ | ⟨z1, z2⟩ <;> subst z2
            · exact Or.inl ⟨z1, hv⟩
            · exact Or.inr (Or.inl ⟨z1, hv⟩)
            · exact Or.inr (Or.inr (Or.inl ⟨z1, hv⟩))
            · exact Or.inr (Or.inr (Or.inr ⟨z1, hv⟩))
        constructor
        · rintro (h | ⟨-, h⟩)
          · exact absurd h c
          · refine ⟨n + 1, stp_y (by rw [hneg]; decide) hgk (hnx.mpr h), ⟨Or.inr ⟨hgk, h⟩, fun u hu z => c (lv_le z (by omega))⟩, Nat.le_refl _⟩
        · intro h
          rw [stp_n (fun z => h (Or.inr ⟨hgk, hnx.mp z.2.2⟩)), hneg]
      · constructor
        · rintro (h | h)
          · exact absurd h c
          · exact absurd h.1 hgk
        · intro _
          rw [stp_n (fun z => hgk z.2.1), hneg]
theorem lv_stop {g : Nat → Nat} {a n : Nat} (h : ∀ k, k < 576 → lv g a (n + 1) k → lv g a n k) (hg : gok g) (ha : a < 576) (m k : Nat) (hm : lv g a m k) : lv g a n k := by
  have key : ∀ d, ∀ k, lv g a (n + d) k → lv g a n k := by
    intro d
    induction d with
    | zero => intro k z; exact z
    | succ d ih =>
      rintro k (z | ⟨z1, j, z2, z3⟩)
      · exact ih k z
      · have h1 : lv g a (n + 1) k := Or.inr ⟨z1, j, ih j z2, z3⟩
        exact h k (lvl_lt hg ha _ _ h1) h1
  exact key m k (lv_le hm (by omega))
/-- what the reference answers -/
theorem bfs_law {g : Nat → Nat} (hg : gok g) {a t : Nat} (ha : a < 576) (ht : t < 576) (old : Nat → Int) {n : Nat} : (0 ≤ bfs g a old n t → ∃ v : Nat, bfs g a old n t = ((v : Nat) : Int) ∧ dst g a v t) ∧ (bfs g a old (n + 1) = bfs g a old n → bfs g a old n t < 0 → ∀ m, ¬ lv g a m t) := by
  constructor
  · intro h
    by_cases c : lv g a n t
    · obtain ⟨v, v1, v2, v3⟩ := (bfs_lv ha old n t ht).1 c; exact ⟨v, v1, v2⟩
    · rw [(bfs_lv ha old n t ht).2 c] at h; omega
  · intro h h2 m hm
    have hst : ∀ k, k < 576 → lv g a (n + 1) k → lv g a n k := by
      intro k hk z
      apply Classical.byContradiction
      intro c
      obtain ⟨v, v1, v2, v3⟩ := (bfs_lv ha old (n + 1) k hk).1 z
      have := (bfs_lv ha old n k hk).2 c
      rw [h] at v1; omega
    obtain ⟨v, v1, v2, v3⟩ := (bfs_lv ha old n t ht).1 (lv_stop hst hg ha m t hm)
    omega
/-! by rows -/
theorem tp_lv {g : Nat → Nat} (hg : gok g) {x0 y0 : Nat} (hx0 : x0 < 24) (hy0 : y0 < 24) : ∀ n x y, x < 24 → y < 24 → ((tpI g false (sdG x0 y0) n y).testBit x = true ↔ lv g (24 * y0 + x0) n (24 * y + x)) := by
  intro n
  induction n with
  | zero =>
    intro x y hx hy
    show (sdG x0 y0 y).testBit x = true ↔ 24 * y + x = 24 * y0 + x0
    unfold sdG va_up
    by_cases e : y = y0
    · subst e
      rw [if_pos rfl, Nat.one_shiftLeft, Nat.testBit_two_pow, decide_eq_true_eq]; omega
    · rw [if_neg e, Nat.zero_testBit]
      exact ⟨fun z => (by cases z), fun z => by omega⟩
  | succ n ih =>
    intro x y hx hy
    rw [tpI, sp_step hy, bes_iff]
    have hgk : (g y).testBit x = true ↔ gk g (24 * y + x) := by
      unfold gk
      rw [show (24 * y + x) % 24 = x by omega, show (24 * y + x) / 24 = y by omega, gc_nat]
    have hok := gok_tp hg (sd_ok hx0 hy0) false n
    have out : ∀ r i, (tpI g false (sdG x0 y0) n r).testBit i = true → i < 24 := fun r i h => bit_lt (k := 24) (hok.1 r) h
    rw [ih x y hx hy, hgk]
    show _ ↔ lv g (24 * y0 + x0) n (24 * y + x) ∨ (gk g (24 * y + x) ∧ ∃ j, lv g (24 * y0 + x0) n j ∧ nei j (24 * y + x))
    constructor
    · rintro (h | ⟨h, h2⟩)
      · exact Or.inl h
      · rcases h2 with z | ⟨z1, z⟩ | z | (⟨z1, z⟩ | ⟨z1, z⟩) | ⟨z, _⟩
        · exact Or.inl z
        · exact Or.inr ⟨h, 24 * y + (x - 1), (ih (x - 1) y (by omega) hy).mp z, by unfold nei; omega⟩
        · have := out _ _ z
          exact Or.inr ⟨h, 24 * y + (x + 1), (ih (x + 1) y this hy).mp z, by unfold nei; omega⟩
        · exact Or.inr ⟨h, 24 * (y - 1) + x, (ih x (y - 1) hx (by omega)).mp z, by unfold nei; omega⟩
        · exact Or.inr ⟨h, 24 * (y + 1) + x, (ih x (y + 1) hx (by omega)).mp z, by unfold nei; omega⟩
        · cases z
    · rintro (h | ⟨h, j, h1, h2⟩)
      · exact Or.inl h
      · refine Or.inr ⟨h, ?_⟩
        rcases h2 with ⟨z1, z2⟩ | ⟨z1, z2⟩ | ⟨z1, z2⟩ | ⟨z1, z2⟩
        · rw [z2, show 24 * y + x - 1 = 24 * y + (x - 1) by omega] at h1
          exact Or.inr (Or.inl ⟨by omega, (ih (x - 1) y (by omega) hy).mpr h1⟩)
        · rw [z2, show 24 * y + x + 1 = 24 * y + (x + 1) by omega] at h1
          exact Or.inr (Or.inr (Or.inl ((ih (x + 1) y (by omega) hy).mpr h1)))
        · rw [z2, show 24 * y + x - 24 = 24 * (y - 1) + x by omega] at h1
          exact Or.inr (Or.inr (Or.inr (Or.inl (Or.inl ⟨by omega, (ih x (y - 1) hx (by omega)).mpr h1⟩))))
        · rw [z2, show 24 * y + x + 24 = 24 * (y + 1) + x by omega] at h1
          exact Or.inr (Or.inr (Or.inr (Or.inl (Or.inr ⟨by omega, (ih x (y + 1) hx (by omega)).mpr h1⟩))))
/-- the loop by rows: found after n spreads, or no more growth -/
theorem row_found {g : Nat → Nat} (hg : gok g) {x0 y0 x y n : Nat} (hx0 : x0 < 24) (hy0 : y0 < 24) (hx : x < 24) (hy : y < 24) (h1 : (tpI g false (sdG x0 y0) n y).testBit x = true) (h2 : ∀ m, m < n → ¬ (tpI g false (sdG x0 y0) m y).testBit x = true) : dst g (24 * y0 + x0) n (24 * y + x) :=
  ⟨(tp_lv hg hx0 hy0 n x y hx hy).mp h1, fun m hm z => h2 m hm ((tp_lv hg hx0 hy0 m x y hx hy).mpr z)⟩
theorem row_none {g : Nat → Nat} (hg : gok g) {x0 y0 x y n : Nat} (hx0 : x0 < 24) (hy0 : y0 < 24) (hx : x < 24) (hy : y < 24) (h1 : ¬ (tpI g false (sdG x0 y0) n y).testBit x = true) (h2 : spB (tpI g false (sdG x0 y0) n) g false 24 = false) (m : Nat) : ¬ lv g (24 * y0 + x0) m (24 * y + x) := by
  intro z
  have ha : 24 * y0 + x0 < 576 := by omega
  refine h1 ((tp_lv hg hx0 hy0 n x y hx hy).mpr (lv_stop (fun k hk z2 => ?_) hg ha m _ z))
  have e : k = 24 * (k / 24) + k % 24 := by omega
  rw [e] at z2 ⊢
  have z3 := (tp_lv hg hx0 hy0 (n + 1) (k % 24) (k / 24) (by omega) (by omega)).mpr z2
  rw [tpI, sp_same h2] at z3
  exact (tp_lv hg hx0 hy0 n (k % 24) (k / 24) (by omega) (by omega)).mp z3
/-! by a queue -/
def bqD (g : Nat → Nat) (c : Nat) (s : (Nat → Int) × List Nat) (d : Nat) : (Nat → Int) × List Nat :=
  if gcI g (((c % 24 : Nat) : Int) + stX d) (((c / 24 : Nat) : Int) + stY d) = true ∧ s.1 (24 * (((c / 24 : Nat) : Int) + stY d) + (((c % 24 : Nat) : Int) + stX d)).toNat = -1
  then (va_up s.1 (24 * (((c / 24 : Nat) : Int) + stY d) + (((c % 24 : Nat) : Int) + stX d)).toNat (s.1 c + 1), s.2 ++ [(24 * (((c / 24 : Nat) : Int) + stY d) + (((c % 24 : Nat) : Int) + stX d)).toNat]) else s
def bq4 (g : Nat → Nat) (c : Nat) (s : (Nat → Int) × List Nat) : Nat → (Nat → Int) × List Nat
  | 0 => s
  | d + 1 => bqD g c (bq4 g c s d) d
def bqN (g : Nat → Nat) (a : Nat) : Nat → (Nat → Int) × List Nat
  | 0 => (fun k => if k = a then 0 else -1, [a])
  | n + 1 => match (bqN g a n).2 with
    | [] => bqN g a n
    | c :: Q => bq4 g c ((bqN g a n).1, Q) 4
/-- the cell in a direction -/
theorem dir_nei {c d : Nat} (hc : c < 576) (hd : d < 4) {x y : Int} (hx : x = ((c % 24 : Nat) : Int) + stX d) (hy : y = ((c / 24 : Nat) : Int) + stY d) (hb : (0 ≤ x ∧ x ≤ 23) ∧ 0 ≤ y ∧ y ≤ 23) : nei c (24 * y + x).toNat ∧ (24 * y + x).toNat < 576 ∧ (24 * y + x).toNat % 24 = x.toNat ∧ (24 * y + x).toNat / 24 = y.toNat := by
  have : d = 0 ∨ d = 1 ∨ d = 2 ∨ d = 3 := by omega
  rcases this with e | e | e | e <;> subst e
  · have h1 : stX 0 = 1 := rfl
    have h2 : stY 0 = 0 := rfl
    rw [h1] at hx; rw [h2] at hy; unfold nei; omega
  · have h1 : stX 1 = 0 := rfl
    have h2 : stY 1 = 1 := rfl
    rw [h1] at hx; rw [h2] at hy; unfold nei; omega
  · have h1 : stX 2 = -1 := rfl
    have h2 : stY 2 = 0 := rfl
    rw [h1] at hx; rw [h2] at hy; unfold nei; omega
  · have h1 : stX 3 = 0 := rfl
    have h2 : stY 3 = -1 := rfl
    rw [h1] at hx; rw [h2] at hy; unfold nei; omega
theorem nei_dir {c k : Nat} (h : nei c k) (hk : k < 576) (hc : c < 576) : ∃ d, d < 4 ∧ ((k % 24 : Nat) : Int) = ((c % 24 : Nat) : Int) + stX d ∧ ((k / 24 : Nat) : Int) = ((c / 24 : Nat) : Int) + stY d := by
  rcases h with ⟨z1, z2⟩ | ⟨z1, z2⟩ | ⟨z1, z2⟩ | ⟨z1, z2⟩
  · exact ⟨0, by decide, by rw [show stX 0 = 1 from rfl]; omega, by rw [show stY 0 = 0 from rfl]; omega⟩
  · exact ⟨2, by decide, by rw [show stX 2 = -1 from rfl]; omega, by rw [show stY 2 = 0 from rfl]; omega⟩
  · exact ⟨1, by decide, by rw [show stX 1 = 0 from rfl]; omega, by rw [show stY 1 = 1 from rfl]; omega⟩
  · exact ⟨3, by decide, by rw [show stX 3 = 0 from rfl]; omega, by rw [show stY 3 = -1 from rfl]; omega⟩
/-- the queue: cells of the distance D ahead of cells of the distance D + 1; what is reached and not in the queue has all its neighbours reached -/
def bqI (g : Nat → Nat) (a : Nat) (F : Nat → Int) (Q : List Nat) (D : Nat) (c : Nat → Prop) : Prop :=
  (∀ k, k < 576 → F k = -1 ∨ ∃ v : Nat, F k = ((v : Nat) : Int) ∧ dst g a v k ∧ v ≤ D + 1) ∧ (∀ k, k < 576 → lv g a D k → F k ≠ -1) ∧
  (∃ A B, Q = A ++ B ∧ (∀ k ∈ A, k < 576 ∧ F k = ((D : Nat) : Int)) ∧ ∀ k ∈ B, k < 576 ∧ F k = ((D + 1 : Nat) : Int)) ∧
  ∀ j, j < 576 → F j ≠ -1 → ¬ j ∈ Q → ¬ c j → ∀ k, k < 576 → nei j k → gk g k → F k ≠ -1
theorem bq_D {g : Nat → Nat} (hg : gok g) {a c D : Nat} (ha : a < 576) (hc : c < 576) {F : Nat → Int} {Q : List Nat} (hI : bqI g a F Q D (fun j => j = c)) (hF : F c = ((D : Nat) : Int)) (d : Nat) (hd : d < 4) :
    bqI g a (bqD g c (F, Q) d).1 (bqD g c (F, Q) d).2 D (fun j => j = c) ∧ (bqD g c (F, Q) d).1 c = ((D : Nat) : Int) ∧ (∀ k, F k ≠ -1 → (bqD g c (F, Q) d).1 k ≠ -1) ∧
    ∀ k, k < 576 → gk g k → ((k % 24 : Nat) : Int) = ((c % 24 : Nat) : Int) + stX d → ((k / 24 : Nat) : Int) = ((c / 24 : Nat) : Int) + stY d → (bqD g c (F, Q) d).1 k ≠ -1 := by
  obtain ⟨x, hx⟩ : ∃ x, x = ((c % 24 : Nat) : Int) + stX d := ⟨_, rfl⟩
  obtain ⟨y, hy⟩ : ∃ y, y = ((c / 24 : Nat) : Int) + stY d := ⟨_, rfl⟩
  unfold bqD
  rw [← hx, ← hy]
  dsimp only
  obtain ⟨i1, i2, ⟨A, B, q1, q2, q3⟩, i4⟩ := hI
  by_cases h : gcI g x y = true ∧ F (24 * y + x).toNat = -1
  · rw [if_pos h]
    dsimp only
    obtain ⟨h1, h2⟩ := h
    rw [gcI_gc hg] at h1
    have hb := gc_in hg h1
    obtain ⟨n1, n2, n3, n4⟩ := dir_nei hc hd hx hy hb
    generalize hk : (24 * y + x).toNat = k at h2 n1 n2 n3 n4 ⊢
    have hgk : gk g k := by
      unfold gk
      rw [n3, n4, show ((x.toNat : Nat) : Int) = x by omega, show ((y.toNat : Nat) : Int) = y by omega]; exact h1
    have hck : c ≠ k := fun z => by rw [z, h2] at hF; omega
    have e1 : ∀ j, j ≠ k → va_up F k (F c + 1) j = F j := fun j hj => if_neg hj
    have e2 : va_up F k (F c + 1) k = ((D + 1 : Nat) : Int) := by
      unfold va_up; rw [if_pos rfl, hF]; omega
    have hcl : lv g a D c := by
      rcases i1 c hc with z | ⟨v, v1, v2, v3⟩
      · rw [hF] at z; omega
      · have : v = D := by rw [hF] at v1; omega
        subst this; exact v2.1
    have hdst : dst g a (D + 1) k := ⟨Or.inr ⟨hgk, c, hcl, n1⟩, fun u hu z => i2 k n2 (lv_le z (by omega)) h2⟩
    refine ⟨⟨fun j hj => ?_, fun j hj hl => ?_, ⟨A, B ++ [k], by rw [q1, List.append_assoc], fun j hj => ?_, fun j hj => ?_⟩, fun j hj hFj hjQ hjc m hm hjm hgm => ?_⟩, ?_, fun j hj => ?_, fun j hj hgj hj1 hj2 => ?_⟩
    · by_cases e : j = k
      · subst e; rw [e2]; exact Or.inr ⟨D + 1, rfl, hdst, Nat.le_refl _⟩
      · rw [e1 j e]; exact i1 j hj
    · by_cases e : j = k
      · subst e; rw [e2]; omega
      · rw [e1 j e]; exact i2 j hj hl
    · have := q2 j hj
      by_cases e : j = k
      · subst e; rw [h2] at this; omega
      · rw [e1 j e]; exact this
    · rcases List.mem_append.mp hj with z | z
      · have := q3 j z
        by_cases e : j = k
        · subst e; rw [h2] at this; omega
        · rw [e1 j e]; exact this
      · rw [List.mem_singleton.mp z, e2]; exact ⟨n2, rfl⟩
    · have hjk : j ≠ k := fun z => hjQ (by rw [z]; exact List.mem_append_right _ (List.mem_singleton.mpr rfl))
      rw [e1 j hjk] at hFj
      have := i4 j hj hFj (fun z => hjQ (List.mem_append_left _ z)) hjc m hm hjm hgm
      by_cases e : m = k
      · subst e; rw [e2]; omega
      · rw [e1 m e]; exact this
    · rw [e1 c hck]; exact hF
    · by_cases e : j = k
      · subst e; rw [e2]; omega
      · rw [e1 j e]; exact hj
    · have : j = k := by omega
      subst this; rw [e2]; omega
  · rw [if_neg h]
    refine ⟨⟨i1, i2, ⟨A, B, q1, q2, q3⟩, i4⟩, hF, fun k hk => hk, fun j hj hgj hj1 hj2 z => h ⟨?_, ?_⟩⟩
    · unfold gk at hgj
      rw [gcI_gc hg, ← hj1, ← hj2]; exact hgj
    · rw [show (24 * y + x).toNat = j by omega]; exact z
theorem bq_4 {g : Nat → Nat} (hg : gok g) {a c D : Nat} (ha : a < 576) (hc : c < 576) {F : Nat → Int} {Q : List Nat} (hI : bqI g a F Q D (fun j => j = c)) (hF : F c = ((D : Nat) : Int)) : bqI g a (bq4 g c (F, Q) 4).1 (bq4 g c (F, Q) 4).2 D (fun _ => False) := by
  have key : ∀ d, d ≤ 4 → bqI g a (bq4 g c (F, Q) d).1 (bq4 g c (F, Q) d).2 D (fun j => j = c) ∧ (bq4 g c (F, Q) d).1 c = ((D : Nat) : Int) ∧ ∀ e, e < d → ∀ k, k < 576 → gk g k → ((k % 24 : Nat) : Int) = ((c % 24 : Nat) : Int) + stX e → ((k / 24 : Nat) : Int) = ((c / 24 : Nat) : Int) + stY e → (bq4 g c (F, Q) d).1 k ≠ -1 := by
    intro d
    induction d with
    | zero => intro _; exact ⟨hI, hF, fun e he => absurd he (Nat.not_lt_zero _)⟩
    | succ d ih =>
      intro hd
      obtain ⟨k1, k2, k3⟩ := ih (by omega)
      rw [bq4]
      obtain ⟨j1, j2, j3, j4⟩ := bq_D hg ha hc k1 k2 d (by omega)
      refine ⟨j1, j2, fun e he k hk hgk h1 h2 => ?_⟩
      by_cases e9 : e = d
      · subst e9; exact j4 k hk hgk h1 h2
      · exact j3 k (k3 e (by omega) k hk hgk h1 h2)
  obtain ⟨k1, k2, k3⟩ := key 4 (Nat.le_refl _)
  obtain ⟨i1, i2, i3, i4⟩ := k1
  refine ⟨i1, i2, i3, fun j hj hFj hjQ _ k hk hjk hgk => ?_⟩
  by_cases e : j = c
  · subst e
    obtain ⟨d, d1, d2, d3⟩ := nei_dir hjk hk hj
    exact k3 d d1 k hk hgk d2 d3
  · exact i4 j hj hFj hjQ e k hk hjk hgk
theorem bq_N {g : Nat → Nat} (hg : gok g) {a : Nat} (ha : a < 576) (n : Nat) : ∃ D, bqI g a (bqN g a n).1 (bqN g a n).2 D (fun _ => False) := by
  induction n with
  | zero =>
    refine ⟨0, fun k hk => ?_, fun k hk h => ?_, ⟨[a], [], rfl, fun k hk => ?_, fun k hk => by cases hk⟩, fun j hj hFj hjQ _ => ?_⟩
    · show (if k = a then (0 : Int) else -1) = -1 ∨ _
      by_cases e : k = a
      · right
        refine ⟨0, if_pos e, ⟨e, fun u hu => absurd hu (Nat.not_lt_zero _)⟩, by omega⟩
      · left; exact if_neg e
    · show (if k = a then (0 : Int) else -1) ≠ -1
      rw [if_pos (show k = a from h)]; decide
    · rw [List.mem_singleton.mp hk]
      exact ⟨ha, if_pos rfl⟩
    · exfalso
      have hFj : (if j = a then (0 : Int) else -1) ≠ -1 := hFj
      by_cases e : j = a
      · exact hjQ (by rw [e]; exact List.mem_singleton.mpr rfl)
      · rw [if_neg e] at hFj; exact hFj rfl
  | succ n ih =>
    obtain ⟨D, hI⟩ := ih
    rw [bqN]
    split
    · exact ⟨D, hI⟩
    · next c Q hQ =>
      rw [hQ] at hI
      generalize (bqN g a n).1 = F at hI
      obtain ⟨i1, i2, ⟨A, B, q1, q2, q3⟩, i4⟩ := hI
      -- the head is of the distance D, or of D + 1 and all of D are done
      cases A with
      | cons c' A =>
        rw [List.cons_append] at q1
        injection q1 with e1 e2
        subst e1
        obtain ⟨hc, hF⟩ := q2 c List.mem_cons_self
        exact ⟨D, bq_4 hg ha hc ⟨i1, i2, ⟨A, B, e2, fun k hk => q2 k (List.mem_cons_of_mem _ hk), q3⟩, fun j hj hFj hjQ hjc => i4 j hj hFj (fun z => (List.mem_cons.mp z).elim hjc hjQ) (fun h => h)⟩ hF⟩
      | nil =>
        rw [List.nil_append] at q1
        obtain ⟨hc, hF⟩ := q3 c (by rw [← q1]; exact List.mem_cons_self)
        have i2' : ∀ k, k < 576 → lv g a (D + 1) k → F k ≠ -1 := by
          rintro k hk (z | ⟨z1, j, z2, z3⟩)
          · exact i2 k hk z
          · have hj := nei_lt z3 hk
            have hFj := i2 j hj z2
            refine i4 j hj hFj (fun z => ?_) (fun h => h) k hk z3 z1
            have h5 := q3 j (by rw [← q1]; exact z)
            rcases i1 j hj with w | ⟨v, v1, v2, v3⟩
            · exact hFj w
            · have : v = D + 1 := by omega
              subst this
              exact v2.2 D (by omega) z2
        refine ⟨D + 1, bq_4 hg ha hc ⟨fun k hk => (i1 k hk).imp id (fun ⟨v, v1, v2, v3⟩ => ⟨v, v1, v2, by omega⟩), i2', ⟨Q, [], by rw [List.append_nil], fun k hk => q3 k (by rw [← q1]; exact List.mem_cons_of_mem _ hk), fun k hk => by cases hk⟩, fun j hj hFj hjQ hjc => i4 j hj hFj (fun z => (List.mem_cons.mp z).elim hjc hjQ) (fun h => h)⟩ hF⟩
theorem bq_law {g : Nat → Nat} (hg : gok g) {a t n : Nat} (ha : a < 576) (ht : t < 576) (hQ : (bqN g a n).2 = []) : (∃ v : Nat, (bqN g a n).1 t = ((v : Nat) : Int) ∧ dst g a v t) ∨ ((bqN g a n).1 t = -1 ∧ ∀ m, ¬ lv g a m t) := by
  obtain ⟨D, i1, i2, i3, i4⟩ := bq_N hg ha n
  rw [hQ] at i4
  have hv : ∀ m k, lv g a m k → (bqN g a n).1 k ≠ -1 := by
    intro m
    induction m with
    | zero =>
      intro k h
      have hk : k < 576 := by rw [show k = a from h]; exact ha
      exact i2 k hk (lv_le (n := 0) h (Nat.zero_le _))
    | succ m ih =>
      intro k h
      have hk := lvl_lt hg ha _ _ h
      rcases h with h | ⟨h1, j, h2, h3⟩
      · exact ih k h
      · exact i4 j (nei_lt h3 hk) (ih j h2) (fun z => by cases z) (fun z => z) k hk h3 h1
  rcases i1 t ht with z | ⟨v, v1, v2, v3⟩
  · exact Or.inr ⟨z, fun m hm => hv m t hm z⟩
  · exact Or.inl ⟨v, v1, v2⟩
