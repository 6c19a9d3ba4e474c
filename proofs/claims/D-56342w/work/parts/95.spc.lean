set_option maxRecDepth 100000
/-! PLAIN LAWS: parts by rectangles -/
/-- the rectangle of a band's span -/
def rcB (L : List Bnd) (j i : Nat) : Rct := (eE (bE L j) (2 * i), (bd L j).1, eE (bE L j) (2 * i + 1), (bd L j).2.1)
theorem sc_rc (lo hi : Int) (E : List Int) (s : pSt) (k : Nat) : (∀ i, i < s.1.length → rc (scE paS lo hi E s k).1 i = rc s.1 i) ∧ ∀ i, i < k → rc (scE paS lo hi E s k).1 (s.1.length + i) = (eE E (2 * i), lo, eE E (2 * i + 1), hi) := by
  induction k with
  | zero => exact ⟨fun i _ => rfl, fun i hi => absurd hi (Nat.not_lt_zero _)⟩
  | succ k ih =>
    have hl := scE_len lo hi E s k
    have e : (scE paS lo hi E s (k + 1)).1 = (scE paS lo hi E s k).1 ++ [(eE E (2 * k), lo, eE E (2 * k + 1), hi)] := rfl
    rw [e]
    refine ⟨fun i hi => ?_, fun i hi => ?_⟩
    · rw [rc_app (by omega)]; exact ih.1 i hi
    · by_cases c : i = k
      · subst c
        rw [← hl, rc_last]
      · rw [rc_app (by omega)]; exact ih.2 i (by omega)
theorem sl_rc (L : List Bnd) (k : Nat) : ∀ j, j < k → ∀ i, i < (bE L j).length / 2 → rc (scL paS L ([], fun _ => 0, 0) k).1 (cntR L j + i) = rcB L j i := by
  induction k with
  | zero => intro j hj; exact absurd hj (Nat.not_lt_zero _)
  | succ k ih =>
    intro j hj i hi
    have hl := scL_len L ([], fun _ => 0, 0) k
    have hl2 : (scL paS L ([], fun _ => 0, 0) k).1.length = cntR L k := by rw [hl]; exact Nat.zero_add _
    obtain ⟨h1, h2⟩ := sc_rc (bd L k).1 (bd L k).2.1 (bE L k) (scL paS L ([], fun _ => 0, 0) k) ((bE L k).length / 2)
    rw [scL]
    by_cases c : j = k
    · subst c
      rw [← hl2]; exact h2 i hi
    · have h3 := cntR_le L (show j + 1 ≤ k by omega)
      rw [cntR] at h3
      rw [h1 _ (by omega)]
      exact ih j (by omega) i hi
/-- where a rectangle comes from -/
theorem idx_ex (L : List Bnd) (k : Nat) : ∀ m, m < cntR L k → ∃ j i, j < k ∧ i < (bE L j).length / 2 ∧ m = cntR L j + i := by
  induction k with
  | zero => intro m hm; exact absurd hm (Nat.not_lt_zero _)
  | succ k ih =>
    intro m hm
    rw [cntR] at hm
    by_cases c : m < cntR L k
    · obtain ⟨j, i, h1, h2, h3⟩ := ih m c; exact ⟨j, i, by omega, h2, h3⟩
    · exact ⟨k, m - cntR L k, by omega, by omega, by omega⟩
theorem idx_u {L : List Bnd} {j j' i i' : Nat} (hi : i < (bE L j).length / 2) (hi' : i' < (bE L j').length / 2) (h : cntR L j + i = cntR L j' + i') : j = j' ∧ i = i' := by
  have hj : j = j' := by
    rcases Nat.lt_trichotomy j j' with z | z | z
    · have := cntR_le L (show j + 1 ≤ j' by omega); rw [cntR] at this; omega
    · exact z
    · have := cntR_le L (show j' + 1 ≤ j by omega); rw [cntR] at this; omega
  subst hj
  exact ⟨rfl, by omega⟩
/-! the classes of rectangles -/
def clN (ro : Nat → Nat) : Nat → Nat
  | 0 => 0
  | k + 1 => clN ro k + if ro k = k then 1 else 0
/-- what hangs together by edges -/
def gcn (Ed : Nat → Nat → Prop) (a b : Nat) : Prop := ∀ Q : Nat → Prop, Q a → (∀ x y, Q x → (Ed x y ∨ Ed y x) → Q y) → Q b
theorem gcn_rf (Ed : Nat → Nat → Prop) (a : Nat) : gcn Ed a a := fun _ h _ => h
theorem gcn_tr {Ed : Nat → Nat → Prop} {a b c : Nat} (h : gcn Ed a b) (h2 : gcn Ed b c) : gcn Ed a c := fun Q q1 q2 => h2 Q (h Q q1 q2) q2
theorem gcn_ed {Ed : Nat → Nat → Prop} {a b : Nat} (h : Ed a b ∨ Ed b a) : gcn Ed a b := fun Q q1 q2 => q2 a b q1 h
theorem gcn_sy {Ed : Nat → Nat → Prop} {a b : Nat} (h : gcn Ed a b) : gcn Ed b a :=
  h (fun x => gcn Ed x a) (gcn_rf _ _) (fun x y hx hxy => gcn_tr (gcn_ed hxy.symm) hx)
/-- the state of a scan after m rectangles, the last of which was held against the first k -/
def ufI (RR : List Rct) (m k : Nat) (ro : Nat → Nat) (p : Int) : Prop :=
  p = ((clN ro m : Nat) : Int) ∧ (∀ i, i < m → ro i < m ∧ ro (ro i) = ro i) ∧ (∀ i, i < m → gcn (fun a b => a < m ∧ b < m ∧ unR (rc RR a) (rc RR b) = true) i (ro i)) ∧ (∀ a b, a < b → b < m → (b + 1 < m ∨ a < k) → unR (rc RR a) (rc RR b) = true → ro a = ro b)
theorem clN_up (ro : Nat → Nat) (m k : Nat) (hk : k ≤ m) (v : Nat) : clN (va_up ro m v) k = clN ro k := by
  induction k with
  | zero => rfl
  | succ k ih =>
    rw [clN, clN, ih (by omega)]
    unfold va_up
    rw [if_neg (by omega : ¬ k = m)]
theorem clN_mg {ro : Nat → Nat} {m a b : Nat} (ha : a < m) (hra : ro a = a) (hrb : ro b = b) (hab : a ≠ b) : clN (mgR ro a b) m + 1 = clN ro m := by
  have key : ∀ k, clN (mgR ro a b) k + (if a < k then 1 else 0) = clN ro k := by
    intro k
    induction k with
    | zero => rfl
    | succ k ih =>
      rw [clN, clN]
      by_cases e : k = a
      · have hA : mgR ro a b k = b := by unfold mgR; rw [e, if_pos hra]
        rw [hA, if_neg (by rw [e]; exact Ne.symm hab), e, if_pos hra, if_pos (by omega)]
        rw [e, if_neg (by omega)] at ih
        omega
      · have hlt : (if a < k + 1 then 1 else 0 : Nat) = if a < k then 1 else 0 := by
          by_cases c2 : a < k
          · rw [if_pos c2, if_pos (by omega)]
          · rw [if_neg c2, if_neg (by omega)]
        have hAB : (if mgR ro a b k = k then 1 else 0 : Nat) = if ro k = k then 1 else 0 := by
          by_cases c : ro k = a
          · have hA : mgR ro a b k = b := by unfold mgR; rw [if_pos c]
            rw [hA, if_neg (fun z => by rw [← z, hrb] at c; exact hab c.symm), if_neg (fun z => e (z.symm.trans c))]
          · have hA : mgR ro a b k = ro k := by unfold mgR; rw [if_neg c]
            rw [hA]
        rw [hlt, hAB]; omega
  have := key m
  rw [if_pos ha] at this
  exact this
theorem gcn_mono {Ed Ed' : Nat → Nat → Prop} {a b : Nat} (h : gcn Ed a b) (hE : ∀ x y, Ed x y → Ed' x y) : gcn Ed' a b := fun Q q1 q2 => h Q q1 (fun x y hx hxy => q2 x y hx (hxy.imp (hE x y) (hE y x)))
theorem vi_inv {RR : List Rct} {r : Rct} {ro : Nat → Nat} {p : Int} (h : ufI RR RR.length RR.length ro p) : ∀ k, k ≤ RR.length → ufI (RR ++ [r]) (RR.length + 1) k (viK RR r ro p k).1 (viK RR r ro p k).2 := by
  obtain ⟨h1, h2, h3, h4⟩ := h
  have hrc : ∀ i, i < RR.length → rc (RR ++ [r]) i = rc RR i := fun i hi => rc_app hi r
  have hrl : rc (RR ++ [r]) RR.length = r := rc_last RR r
  intro k
  induction k with
  | zero =>
    intro _
    have e1 : ∀ i, i < RR.length → va_up ro RR.length RR.length i = ro i := fun i hi => if_neg (by omega)
    have e2 : va_up ro RR.length RR.length RR.length = RR.length := if_pos rfl
    refine ⟨?_, fun i hi => ?_, fun i hi => ?_, fun a b hab hb hk hu => ?_⟩
    · show p + 1 = ((clN (va_up ro RR.length RR.length) (RR.length + 1) : Nat) : Int)
      rw [clN, clN_up _ _ _ (Nat.le_refl _), e2, if_pos rfl, h1]; omega
    · show va_up ro RR.length RR.length i < _ ∧ va_up ro RR.length RR.length (va_up ro RR.length RR.length i) = va_up ro RR.length RR.length i
      by_cases e : i = RR.length
      · rw [e, e2, e2]; exact ⟨by omega, rfl⟩
      · have := h2 i (by omega)
        rw [e1 i (by omega), e1 _ this.1]; exact ⟨by omega, this.2⟩
    · show gcn _ i (va_up ro RR.length RR.length i)
      by_cases e : i = RR.length
      · rw [e, e2]; exact gcn_rf _ _
      · rw [e1 i (by omega)]
        exact gcn_mono (h3 i (by omega)) (fun x y ⟨a, b, c⟩ => ⟨by omega, by omega, by rw [hrc x a, hrc y b]; exact c⟩)
    · show va_up ro RR.length RR.length a = va_up ro RR.length RR.length b
      have hb2 : b < RR.length := by omega
      rw [e1 a (by omega), e1 b hb2]
      rw [hrc a (by omega), hrc b hb2] at hu
      exact h4 a b hab hb2 (Or.inr (by omega)) hu
  | succ k ih =>
    intro hk
    obtain ⟨i1, i2, i3, i4⟩ := ih (by omega)
    rw [viK]
    generalize viK RR r ro p k = t at i1 i2 i3 i4
    have hkr : rc (RR ++ [r]) k = rc RR k := hrc k (by omega)
    by_cases c : unR (rc RR k) r = true ∧ t.1 k ≠ t.1 RR.length
    · rw [if_pos c]
      obtain ⟨c1, c2⟩ := c
      have r1 := i2 k (by omega)
      have r2 := i2 RR.length (by omega)
      refine ⟨?_, fun i hi => ?_, fun i hi => ?_, fun a b hab hb hkk hu => ?_⟩
      · dsimp only
        have := clN_mg (m := RR.length + 1) r2.1 r2.2 r1.2 (fun z => c2 z.symm)
        rw [i1]; omega
      · dsimp only
        unfold mgR
        have hi2 := i2 i hi
        by_cases e : t.1 i = t.1 RR.length
        · rw [if_pos e, r1.2, if_neg c2]; exact ⟨r1.1, rfl⟩
        · rw [if_neg e, hi2.2, if_neg e]; exact ⟨hi2.1, rfl⟩
      · dsimp only
        unfold mgR
        by_cases e : t.1 i = t.1 RR.length
        · rw [if_pos e]
          have g1 := i3 i hi
          rw [e] at g1
          refine gcn_tr g1 (gcn_tr (gcn_sy (i3 RR.length (by omega))) (gcn_tr (gcn_ed (Or.inr ⟨by omega, by omega, ?_⟩)) (i3 k (by omega))))
          rw [hkr, hrl]; exact c1
        · rw [if_neg e]; exact i3 i hi
      · dsimp only
        unfold mgR
        by_cases e : b = RR.length ∧ a = k
        · obtain ⟨e1, e2⟩ := e
          subst e1; subst e2
          rw [if_neg c2, if_pos rfl]
        · have := i4 a b hab hb (by omega) hu
          rw [this]
    · rw [if_neg c]
      refine ⟨i1, i2, i3, fun a b hab hb hkk hu => ?_⟩
      by_cases e : b = RR.length ∧ a = k
      · obtain ⟨e1, e2⟩ := e
        subst e1; subst e2
        rw [hkr, hrl] at hu
        apply Classical.byContradiction
        intro z
        exact c ⟨hu, z⟩
      · exact i4 a b hab hb (by omega) hu
def ufS (s : pSt) : Prop := ufI s.1 s.1.length s.1.length s.2.1 s.2.2
theorem pa_inv {s : pSt} (h : ufS s) (l lo r hi : Int) : ufS (paS s l lo r hi) := by
  have h1 := vi_inv (r := (l, lo, r, hi)) h s.1.length (Nat.le_refl _)
  unfold ufS paS
  dsimp only
  rw [List.length_append, List.length_singleton]
  obtain ⟨a, b, c, d⟩ := h1
  exact ⟨a, b, c, fun x y hxy hy _ hu => d x y hxy hy (by omega) hu⟩
theorem scE_uf (lo hi : Int) (E : List Int) {s : pSt} (h : ufS s) (k : Nat) : ufS (scE paS lo hi E s k) := by
  induction k with
  | zero => exact h
  | succ k ih => rw [scE]; exact pa_inv ih _ _ _ _
theorem scL_uf (L : List Bnd) (k : Nat) : ufS (scL paS L ([], fun _ => 0, 0) k) := by
  induction k with
  | zero => exact ⟨rfl, fun i hi => absurd hi (Nat.not_lt_zero _), fun i hi => absurd hi (Nat.not_lt_zero _), fun a b _ hb => absurd hb (Nat.not_lt_zero _)⟩
  | succ k ih => rw [scL]; exact scE_uf _ _ _ ih _
/-- roots are the same where edges lead -/
theorem uf_iff {s : pSt} (h : ufS s) {a b : Nat} (ha : a < s.1.length) (hb : b < s.1.length) (hord : ∀ x y, x < s.1.length → y < s.1.length → unR (rc s.1 x) (rc s.1 y) = true → x < y) : s.2.1 a = s.2.1 b ↔ gcn (fun x y => x < s.1.length ∧ y < s.1.length ∧ unR (rc s.1 x) (rc s.1 y) = true) a b := by
  obtain ⟨h1, h2, h3, h4⟩ := h
  constructor
  · intro e
    have g1 := h3 a ha
    rw [e] at g1
    exact gcn_tr g1 (gcn_sy (h3 b hb))
  · intro hg
    refine (hg (fun x => s.2.1 a = s.2.1 x) rfl (fun x y hx hxy => ?_))
    rcases hxy with ⟨q1, q2, q3⟩ | ⟨q1, q2, q3⟩
    · rw [hx]; exact h4 x y (hord x y q1 q2 q3) q2 (Or.inr q1) q3
    · rw [hx]; exact (h4 y x (hord y x q1 q2 q3) q2 (Or.inr q1) q3).symm
/-- a cell lies in a rectangle -/
def inC (r : Rct) (p : Int × Int) : Prop := (r.1 ≤ p.1 ∧ p.1 < r.2.2.1) ∧ r.2.1 ≤ p.2 ∧ p.2 < r.2.2.2
section PRT
variable {L : List Bnd} {g : Nat → Nat}
theorem rcB_in (hg : gok g) (hr : rs L (gc g)) {j i : Nat} (hj : j < L.length) (hi : i < (bE L j).length / 2) : (rcB L j i).1 < (rcB L j i).2.2.1 ∧ (rcB L j i).2.1 < (rcB L j i).2.2.2 ∧ ∀ p, inC (rcB L j i) p → gT g p := by
  have hc := hr.1.1 j hj
  refine ⟨hc.2.1.2 (2 * i) (by omega), hc.1, fun p hp => ?_⟩
  obtain ⟨⟨p1, p2⟩, p3, p4⟩ := hp
  unfold gT
  rw [← rs_band hr hj (x := p.1) p3 p4]
  exact mE_mid hc.2.1 (by omega) p1 p2
theorem rcB_ex (hr : rs L (gc g)) {p : Int × Int} (hp : gT g p) : ∃ j i, j < L.length ∧ i < (bE L j).length / 2 ∧ inC (rcB L j i) p := by
  unfold gT at hp
  rw [← hr.2] at hp
  rcases row_cases hr.1 p.2 with ⟨j, j1, j2, j3, j4⟩ | ⟨j1, j2⟩
  · rw [j4] at hp
    obtain ⟨i, i1, i2, i3⟩ := mE_iff.mp hp
    exact ⟨j, i, j1, by omega, ⟨i2, i3⟩, j2, j3⟩
  · rw [j2, mE_nil] at hp; cases hp
theorem rcB_u (hr : rs L (gc g)) {p : Int × Int} {j j' i i' : Nat} (hj : j < L.length) (hj' : j' < L.length) (hi : i < (bE L j).length / 2) (hi' : i' < (bE L j').length / 2) (h : inC (rcB L j i) p) (h' : inC (rcB L j' i') p) : j = j' ∧ i = i' := by
  obtain ⟨⟨a1, a2⟩, a3, a4⟩ := h
  obtain ⟨⟨b1, b2⟩, b3, b4⟩ := h'
  unfold rcB at a1 a2 a3 a4 b1 b2 b3 b4
  dsimp only at a1 a2 a3 a4 b1 b2 b3 b4
  have ej : j = j' := by
    rcases Nat.lt_trichotomy j j' with z | z | z
    · have := cb_up hr.1 z hj'; omega
    · exact z
    · have := cb_up hr.1 z hj; omega
  subst ej
  have hc := (hr.1.1 j hj).2.1
  refine ⟨rfl, ?_⟩
  rcases Nat.lt_trichotomy i i' with z | z | z
  · have := cn_lt hc (show 2 * i + 1 < 2 * i' by omega) (by omega); omega
  · exact z
  · have := cn_lt hc (show 2 * i' + 1 < 2 * i by omega) (by omega); omega
theorem rcB_un (hr : rs L (gc g)) {j j' i i' : Nat} (hj : j < L.length) (hj' : j' < L.length) (h : unR (rcB L j i) (rcB L j' i') = true) : j < j' := by
  unfold unR rcB at h
  rw [decide_eq_true_eq] at h
  dsimp only at h
  apply Classical.byContradiction
  intro z
  by_cases e : j = j'
  · subst e; have := (hr.1.1 j hj).1; omega
  · have := cb_up hr.1 (show j' < j by omega) hj
    have := (hr.1.1 j' hj').1
    have := (hr.1.1 j hj).1
    omega
/-- the cells of one rectangle hang together -/
theorem rcB_cn (hg : gok g) (hr : rs L (gc g)) {j i : Nat} (hj : j < L.length) (hi : i < (bE L j).length / 2) {p : Int × Int} (hp : inC (rcB L j i) p) : cn (gT g) false ((rcB L j i).1, (rcB L j i).2.1) p := by
  obtain ⟨h1, h2, h3⟩ := rcB_in hg hr hj hi
  obtain ⟨⟨p1, p2⟩, p3, p4⟩ := hp
  have e0 : gT g ((rcB L j i).1, (rcB L j i).2.1) := h3 _ ⟨⟨Int.le_refl _, h1⟩, Int.le_refl _, h2⟩
  have a := cn_line (T := gT g) (c := false) (s := ((rcB L j i).1, (rcB L j i).2.1)) (P := fun x => (x, (rcB L j i).2.1)) (a := (rcB L j i).1) (b := (rcB L j i).2.2.1 - 1) (cn_rf e0) (fun x q1 q2 => h3 _ ⟨⟨q1, by dsimp only; omega⟩, Int.le_refl _, h2⟩) (fun x => ⟨by dsimp only; omega, by dsimp only; omega, Or.inr (Or.inr rfl)⟩) p.1 p1 (by omega)
  exact cn_line (T := gT g) (c := false) (P := fun y => (p.1, y)) (a := (rcB L j i).2.1) (b := (rcB L j i).2.2.2 - 1) a (fun y q1 q2 => h3 _ ⟨⟨p1, p2⟩, q1, by dsimp only; omega⟩) (fun y => ⟨by dsimp only; omega, by dsimp only; omega, Or.inr (Or.inl rfl)⟩) p.2 p3 (by omega)
end PRT
