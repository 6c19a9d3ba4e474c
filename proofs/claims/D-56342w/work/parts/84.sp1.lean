set_option maxRecDepth 100000
/-! PLAIN LAWS: rows of spans as sets of columns -/
theorem eE_in {E : List Int} {i : Nat} (h : i < E.length) : eE E i = E[i] := by
  unfold eE; rw [List.getD_eq_getElem?_getD, List.getElem?_eq_getElem h]; rfl
theorem eE_out {E : List Int} {i : Nat} (h : E.length ≤ i) : eE E i = 0 := by
  unfold eE; rw [List.getD_eq_getElem?_getD, List.getElem?_eq_none h]; rfl
theorem eE_appL {E F : List Int} {i : Nat} (h : i < E.length) : eE (E ++ F) i = eE E i := by
  unfold eE; rw [List.getD_eq_getElem?_getD, List.getD_eq_getElem?_getD, List.getElem?_append_left h]
theorem eE_appR {E F : List Int} {i : Nat} (h : E.length ≤ i) : eE (E ++ F) i = eE F (i - E.length) := by
  unfold eE; rw [List.getD_eq_getElem?_getD, List.getD_eq_getElem?_getD, List.getElem?_append_right h]
theorem eE_setL {E : List Int} {v : Int} {i : Nat} (h : i + 1 < E.length) : eE (E.dropLast ++ [v]) i = eE E i := by
  have hl : E.dropLast.length = E.length - 1 := List.length_dropLast
  rw [eE_appL (by omega), eE_in (by omega), eE_in (by omega), List.getElem_dropLast]
theorem eE_setR {E : List Int} {v : Int} (h : 0 < E.length) : eE (E.dropLast ++ [v]) (E.length - 1) = v := by
  have hl : E.dropLast.length = E.length - 1 := List.length_dropLast
  rw [eE_appR (by omega), show E.length - 1 - E.dropLast.length = 0 by omega]; rfl
theorem lastE_eq {E : List Int} (h : 0 < E.length) : lastE E = eE E (E.length - 1) := by
  rw [lastE, List.getLast?_eq_getElem?, eE, List.getD_eq_getElem?_getD]
/-- rising ends, an even number of them -/
def cnE (E : List Int) : Prop := E.length % 2 = 0 ∧ ∀ i, i + 1 < E.length → eE E i < eE E (i + 1)
/-- the columns of a row of spans -/
def mE (E : List Int) (x : Int) : Bool := inE E x (E.length / 2)
theorem cn_nil : cnE [] := ⟨rfl, fun i h => absurd h (by show ¬ i + 1 < 0; omega)⟩
theorem mE_nil (x : Int) : mE [] x = false := rfl
theorem cn_lt {E : List Int} (h : cnE E) {i j : Nat} (hij : i < j) (hj : j < E.length) : eE E i < eE E j := by
  induction j with
  | zero => omega
  | succ j ih =>
    have h1 := h.2 j hj
    by_cases e : i = j
    · subst e; exact h1
    · have := ih (by omega) (by omega); omega
theorem cn_le {E : List Int} (h : cnE E) {i j : Nat} (hij : i ≤ j) (hj : j < E.length) : eE E i ≤ eE E j := by
  by_cases e : i = j
  · subst e; exact Int.le_refl _
  · exact Int.le_of_lt (cn_lt h (by omega) hj)
theorem inE_iff (E : List Int) (x : Int) (k : Nat) : inE E x k = true ↔ ∃ i, i < k ∧ eE E (2 * i) ≤ x ∧ x < eE E (2 * i + 1) := by
  induction k with
  | zero => simp [inE]
  | succ k ih =>
    rw [inE, Bool.or_eq_true, ih, decide_eq_true_eq]
    constructor
    · rintro (⟨i, h1, h2, h3⟩ | ⟨h1, h2⟩)
      · exact ⟨i, by omega, h2, h3⟩
      · exact ⟨k, by omega, h1, by omega⟩
    · rintro ⟨i, h1, h2, h3⟩
      by_cases e : i = k
      · subst e; exact Or.inr ⟨h2, by omega⟩
      · exact Or.inl ⟨i, by omega, h2, h3⟩
theorem mE_iff {E : List Int} {x : Int} : mE E x = true ↔ ∃ i, 2 * i + 1 < E.length ∧ eE E (2 * i) ≤ x ∧ x < eE E (2 * i + 1) := by
  rw [mE, inE_iff]
  constructor
  · rintro ⟨i, h1, h2⟩; exact ⟨i, by omega, h2⟩
  · rintro ⟨i, h1, h2⟩; exact ⟨i, by omega, h2⟩
theorem b_iff {a b : Bool} (h : a = true ↔ b = true) : a = b := by
  cases a <;> cases b <;> simp_all
/-- the parity of the ends that are passed -/
theorem mE_par {E : List Int} (h : cnE E) {i : Nat} (hi : i ≤ E.length) {t : Int} (h1 : ∀ a, a < i → eE E a ≤ t) (h2 : ∀ a, i ≤ a → a < E.length → t < eE E a) : mE E t = decide (i % 2 = 1) := by
  apply b_iff
  rw [mE_iff, decide_eq_true_eq]
  constructor
  · rintro ⟨k, k1, k2, k3⟩
    by_cases e : i ≤ 2 * k
    · have := h2 _ e (by omega); omega
    · by_cases e2 : 2 * k + 1 < i
      · have := h1 _ e2; omega
      · omega
  · intro hodd
    have hev := h.1
    refine ⟨(i - 1) / 2, by omega, ?_, ?_⟩
    · exact h1 _ (by omega)
    · exact h2 _ (by omega) (by omega)
theorem mE_ge {E : List Int} (h : cnE E) {t : Int} (ht : mE E t = true) : eE E 0 ≤ t ∧ t < eE E (E.length - 1) ∧ 0 < E.length := by
  obtain ⟨i, h1, h2, h3⟩ := mE_iff.mp ht
  refine ⟨Int.le_trans (cn_le h (Nat.zero_le _) (by omega)) h2, Int.lt_of_lt_of_le h3 (cn_le h (by omega) (by omega)), by omega⟩
/-- where the first span begins, and before where the last one ends, there are columns -/
theorem mE_left {E : List Int} (h : cnE E) {i : Nat} (hi : 2 * i + 1 < E.length) : mE E (eE E (2 * i)) = true := mE_iff.mpr ⟨i, hi, Int.le_refl _, h.2 _ hi⟩
theorem mE_right {E : List Int} (h : cnE E) {i : Nat} (hi : 2 * i + 1 < E.length) : mE E (eE E (2 * i + 1) - 1) = true := mE_iff.mpr ⟨i, hi, by have := h.2 _ hi; omega, by omega⟩
theorem cn_rg {E : List Int} (h : cnE E) {a b : Int} (hm : ∀ x, mE E x = true → a ≤ x ∧ x < b) {i : Nat} (hi : i < E.length) : a ≤ eE E i ∧ eE E i ≤ b := by
  have hev := h.1
  have h1 := hm _ (mE_left h (i := 0) (by omega))
  have h2 := hm _ (mE_right h (i := E.length / 2 - 1) (by omega))
  rw [show 2 * (E.length / 2 - 1) + 1 = E.length - 1 by omega] at h2
  have h3 := cn_le h (Nat.zero_le i) hi
  have h4 := cn_le h (show i ≤ E.length - 1 by omega) (by omega)
  rw [Nat.mul_zero] at h1
  omega
theorem cn_gap {E : List Int} (h : cnE E) {i j : Nat} (hij : i ≤ j) (hj : j < E.length) : eE E i + ((j - i : Nat) : Int) ≤ eE E j := by
  induction j with
  | zero => rw [show i = 0 by omega]; simp
  | succ j ih =>
    by_cases e : i = j + 1
    · subst e; simp
    · have := ih (by omega) (by omega); have := h.2 j hj; omega
theorem cn_len {E : List Int} (h : cnE E) {a b : Int} (hm : ∀ x, mE E x = true → a ≤ x ∧ x < b) (hab : a ≤ b) : (E.length : Int) ≤ b - a + 1 := by
  by_cases e : E.length = 0
  · omega
  · have h1 := cn_rg h hm (i := 0) (by omega)
    have h2 := cn_rg h hm (i := E.length - 1) (by omega)
    have h3 := cn_gap h (Nat.zero_le (E.length - 1)) (by omega)
    omega
/-- canonical rows with the same columns are the same -/
theorem cn_ext {E F : List Int} (hE : cnE E) (hF : cnE F) (h : ∀ x, mE E x = mE F x) : E = F := by
  have key : ∀ (n : Nat) (E F : List Int), cnE E → cnE F → (∀ x, mE E x = mE F x) → ∀ i, i < n → i < E.length → i < F.length ∧ eE F i = eE E i := by
    intro n
    induction n with
    | zero => intro E F _ _ _ i hi; omega
    | succ n ih =>
      intro E F hE hF h i hi hl
      by_cases hn : i < n
      · exact ih E F hE hF h i hn hl
      · have hin : i = n := by omega
        subst hin
        have pre : ∀ a, a < i → a < F.length ∧ eE F a = eE E a := fun a ha => ih E F hE hF h a ha (by omega)
        -- the end i: left of it and at it the row differs
        have hx := h (eE E i)
        have hx1 := h (eE E i - 1)
        have e1 : mE E (eE E i) = decide ((i + 1) % 2 = 1) := mE_par hE (by omega) (fun a ha => cn_le hE (by omega) hl) (fun a ha hb => cn_lt hE (by omega) hb)
        have e2 : mE E (eE E i - 1) = decide (i % 2 = 1) := mE_par hE (by omega) (fun a ha => by have := cn_lt hE ha hl; omega) (fun a ha hb => by have := cn_le hE ha hb; omega)
        -- i ends of F are at most E i - 1
        have hFi : i ≤ F.length := by
          by_cases z : i = 0
          · omega
          · have := (pre (i - 1) (by omega)).1; omega
        have lo : ∀ a, a < i → eE F a ≤ eE E i - 1 := fun a ha => by rw [(pre a ha).2]; have := cn_lt hE ha hl; omega
        by_cases hF2 : i < F.length
        · refine ⟨hF2, ?_⟩
          rcases Int.lt_trichotomy (eE F i) (eE E i) with c | c | c
          · -- F has an end before
            exfalso
            have f1 : mE F (eE F i) = decide ((i + 1) % 2 = 1) := mE_par hF (by omega) (fun a ha => cn_le hF (by omega) hF2) (fun a ha hb => cn_lt hF (by omega) hb)
            have f2 : mE E (eE F i) = decide (i % 2 = 1) := mE_par hE (by omega) (fun a ha => by rw [← (pre a ha).2]; exact Int.le_of_lt (cn_lt hF ha hF2)) (fun a ha hb => by have := cn_le hE ha hb; omega)
            have := h (eE F i)
            rw [f1, f2] at this
            have := decide_eq_decide.mp this
            omega
          · exact c
          · exfalso
            have f1 : mE F (eE E i) = decide (i % 2 = 1) := mE_par hF (by omega) (fun a ha => by have := lo a ha; omega) (fun a ha hb => by have := cn_le hF ha hb; omega)
            rw [e1, f1] at hx
            have := decide_eq_decide.mp hx
            omega
        · exfalso
          have f1 : mE F (eE E i) = decide (i % 2 = 1) := mE_par hF (by omega) (fun a ha => by have := lo a ha; omega) (fun a ha hb => by omega)
          rw [e1, f1] at hx
          have := decide_eq_decide.mp hx
          omega
  have hEF := key (E.length + F.length) E F hE hF h
  have hFE := key (E.length + F.length) F E hF hE (fun x => (h x).symm)
  have hlen : E.length = F.length := by
    by_cases e : E.length ≤ F.length
    · by_cases e2 : F.length ≤ E.length
      · omega
      · have := (hFE (F.length - 1) (by omega) (by omega)).1; omega
    · have := (hEF (E.length - 1) (by omega) (by omega)).1; omega
  apply List.ext_getElem hlen
  intro i h1 h2
  have := (hEF i (by omega) h1).2
  rw [eE_in h1, eE_in h2] at this
  exact this.symm
/-! a span added -/
theorem inE_cong {E F : List Int} {x : Int} {k : Nat} (h : ∀ i, i < 2 * k → eE E i = eE F i) : inE E x k = inE F x k := by
  induction k with
  | zero => rfl
  | succ k ih => rw [inE, inE, ih (fun i hi => h i (by omega)), h (2 * k) (by omega), h (2 * k + 1) (by omega)]
/-- the last span begins at most at l -/
def lsE (E : List Int) (l : Int) : Prop := E.length = 0 ∨ eE E (E.length - 2) ≤ l
theorem sp_add {E : List Int} (h : cnE E) {l r : Int} (hl : lsE E l) : cnE (spadd E l r) ∧ (∀ x, mE (spadd E l r) x = (mE E x || (decide (l ≤ x) && decide (x < r)))) ∧ (∀ l', l ≤ l' → lsE (spadd E l r) l') := by
  have hev := h.1
  unfold spadd
  by_cases h1 : r ≤ l
  · rw [if_pos h1]
    refine ⟨h, fun x => ?_, fun l' h' => ?_⟩
    · by_cases h2 : l ≤ x
      · rw [decide_eq_false (by omega : ¬ x < r), Bool.and_false, Bool.or_false]
      · rw [decide_eq_false h2, Bool.false_and, Bool.or_false]
    · rcases hl with z | z
      · exact Or.inl z
      · exact Or.inr (by omega)
  · rw [if_neg h1]
    by_cases h2 : spJ E l
    · rw [if_pos h2]
      have h20 := h2.1
      have hle := lastE_eq h20
      have hlen := len_set h20 (max (lastE E) r)
      rcases hl with z | z
      · omega
      generalize hv : max (lastE E) r = v at hlen ⊢
      refine ⟨⟨by omega, fun i hi => ?_⟩, fun x => ?_, fun l' h' => ?_⟩
      · rw [hlen] at hi
        rw [eE_setL (by omega)]
        have h5 := h.2 i hi
        by_cases e : i + 1 + 1 < E.length
        · rw [eE_setL e]; exact h5
        · rw [show i + 1 = E.length - 1 by omega, eE_setR h20]
          rw [show i + 1 = E.length - 1 by omega] at h5
          omega
      · have e1 : mE (E.dropLast ++ [v]) x = (inE E x (E.length / 2 - 1) || decide (eE E (E.length - 2) ≤ x ∧ x ≤ v - 1)) := by
          rw [mE, hlen, show E.length / 2 = E.length / 2 - 1 + 1 by omega, inE, Nat.add_sub_cancel, inE_cong (F := E) (fun i hi => eE_setL (by omega)), eE_setL (by omega), show 2 * (E.length / 2 - 1) + 1 = E.length - 1 by omega, eE_setR h20, show 2 * (E.length / 2 - 1) = E.length - 2 by omega]
        have e2 : mE E x = (inE E x (E.length / 2 - 1) || decide (eE E (E.length - 2) ≤ x ∧ x ≤ eE E (E.length - 1) - 1)) := by
          rw [mE, show E.length / 2 = E.length / 2 - 1 + 1 by omega, inE, Nat.add_sub_cancel, show 2 * (E.length / 2 - 1) + 1 = E.length - 1 by omega, show 2 * (E.length / 2 - 1) = E.length - 2 by omega]
        rw [e1, e2, Bool.or_assoc]
        congr 1
        have h9 := h2.2
        apply b_iff
        simp only [Bool.or_eq_true, Bool.and_eq_true, decide_eq_true_eq]
        omega
      · refine Or.inr ?_
        rw [hlen, eE_setL (by omega)]; omega
    · rw [if_neg h2]
      have hlen : (E ++ [l, r]).length = E.length + 2 := by rw [List.length_append]; rfl
      have el : eE (E ++ [l, r]) E.length = l := by rw [eE_appR (Nat.le_refl _), Nat.sub_self]; rfl
      have er : eE (E ++ [l, r]) (E.length + 1) = r := by rw [eE_appR (by omega), Nat.add_sub_cancel_left]; rfl
      refine ⟨⟨by omega, fun i hi => ?_⟩, fun x => ?_, fun l' h' => ?_⟩
      · by_cases e : i + 1 < E.length
        · rw [eE_appL (by omega), eE_appL e]; exact h.2 i e
        · by_cases e2 : i + 1 = E.length
          · rw [e2, el, eE_appL (by omega)]
            have : ¬ l ≤ lastE E := fun z => h2 ⟨by omega, z⟩
            rw [lastE_eq (by omega)] at this
            rw [show i = E.length - 1 by omega]; omega
          · rw [show i = E.length by omega, el, er]; omega
      · rw [mE, hlen, show (E.length + 2) / 2 = E.length / 2 + 1 by omega, inE, show 2 * (E.length / 2) = E.length by omega, el, er, inE_cong (F := E) (fun i hi => eE_appL (by omega))]
        show (mE E x || _) = _
        congr 1
        apply b_iff
        simp only [Bool.and_eq_true, decide_eq_true_eq]
        omega
      · refine Or.inr ?_
        rw [hlen, Nat.add_sub_cancel, el]; exact h'
theorem ls_nil (l : Int) : lsE [] l := Or.inl rfl
/-- the ends of a longer row -/
theorem sp_last {E : List Int} (h : cnE E) {b : Int} (hE : ∀ i, i < E.length → eE E i ≤ b) {l r : Int} (hl : l ≤ b) (hr : r ≤ b) : ∀ i, i < (spadd E l r).length → eE (spadd E l r) i ≤ b := by
  intro i hi
  unfold spadd at hi ⊢
  by_cases h1 : r ≤ l
  · rw [if_pos h1] at hi ⊢; exact hE i hi
  · rw [if_neg h1] at hi ⊢
    by_cases h2 : spJ E l
    · rw [if_pos h2] at hi ⊢
      rw [len_set h2.1] at hi
      by_cases e : i + 1 < E.length
      · rw [eE_setL e]; exact hE i hi
      · rw [show i = E.length - 1 by omega, eE_setR h2.1, lastE_eq h2.1]
        have := hE (E.length - 1) (by omega); omega
    · rw [if_neg h2] at hi ⊢
      rw [List.length_append] at hi
      by_cases e : i < E.length
      · rw [eE_appL e]; exact hE i e
      · rw [eE_appR (by omega)]
        by_cases e2 : i = E.length
        · rw [e2, Nat.sub_self]; exact hl
        · have hl2 : [l, r].length = 2 := rfl
          rw [show i - E.length = 1 by omega]; exact hr
/-! two rows combined -/
theorem opk_ff (k : Nat) : opk k false false = false := by
  match k with
  | 0 => rfl
  | 1 => rfl
  | 2 => rfl
  | _ + 3 => rfl
/-- where a merge stands after n steps -/
def cmI (k : Nat) (E F : List Int) (n : Nat) (t : Nat × Nat × Int × List Int) : Prop :=
  t.1 + t.2.1 = n ∧ t.1 ≤ E.length ∧ t.2.1 ≤ F.length ∧ cnE t.2.2.2 ∧
  (n = 0 → t.2.2.2 = []) ∧
  (0 < n → (∀ a, a < t.1 → eE E a ≤ t.2.2.1) ∧ (∀ a, t.1 ≤ a → a < E.length → t.2.2.1 ≤ eE E a) ∧ (∀ a, a < t.2.1 → eE F a ≤ t.2.2.1) ∧ (∀ a, t.2.1 ≤ a → a < F.length → t.2.2.1 ≤ eE F a) ∧
    (∀ i, i < t.2.2.2.length → eE t.2.2.2 i ≤ t.2.2.1) ∧ ∀ x, mE t.2.2.2 x = (opk k (mE E x) (mE F x) && decide (x < t.2.2.1)))
theorem cm_inv {E F : List Int} (hE : cnE E) (hF : cnE F) (k : Nat) : ∀ n, n ≤ E.length + F.length → cmI k E F n (cmS k E F n) := by
  intro n
  induction n with
  | zero => intro _; exact ⟨rfl, Nat.zero_le _, Nat.zero_le _, cn_nil, fun _ => rfl, fun h => absurd h (by omega)⟩
  | succ n ih =>
    intro hn
    have hI := ih (by omega)
    generalize ht : cmS k E F n = t at hI
    obtain ⟨i, j, x, C⟩ := t
    obtain ⟨h1, h2, h3, h4, h5, h6⟩ := hI
    dsimp only at h1 h2 h3 h4 h5 h6
    -- the next end
    obtain ⟨b, hb⟩ : ∃ b, b = isF E F i j := ⟨_, rfl⟩
    obtain ⟨x', hx'⟩ : ∃ x', x' = if b = true then eE E i else eE F j := ⟨_, rfl⟩
    have hs : cmS k E F (n + 1) = (if b = true then i + 1 else i, if b = true then j else j + 1, x', if opk k (decide (i % 2 = 1)) (decide (j % 2 = 1)) = true then spadd C x x' else C) := by
      rw [cmS, ht, hx', hb]
    have hbt : b = true → i < E.length ∧ (j < F.length → eE E i ≤ eE F j) := by
      intro h
      rw [hb, isF, decide_eq_true_eq] at h
      rcases h with h | h
      · exact ⟨by omega, fun z => by omega⟩
      · exact ⟨h.1, fun _ => h.2⟩
    have hbf : b = false → j < F.length ∧ (i < E.length → eE F j < eE E i) := by
      intro h
      rw [hb, isF, decide_eq_false_iff_not] at h
      refine ⟨?_, fun z => ?_⟩
      · apply Classical.byContradiction
        intro z; apply h; exact Or.inl (by omega)
      · apply Classical.byContradiction
        intro z2; apply h; exact Or.inr ⟨z, by omega⟩
    -- all that is left is at x' or beyond
    have hEx : ∀ a, i ≤ a → a < E.length → x' ≤ eE E a := by
      intro a ha hl
      rw [hx']
      cases hb2 : b
      · rw [if_neg Bool.false_ne_true]
        have := (hbf hb2).2 (by omega)
        have := cn_le hE ha hl
        omega
      · rw [if_pos rfl]; exact cn_le hE ha hl
    have hFx : ∀ a, j ≤ a → a < F.length → x' ≤ eE F a := by
      intro a ha hl
      rw [hx']
      cases hb2 : b
      · rw [if_neg Bool.false_ne_true]; exact cn_le hF ha hl
      · rw [if_pos rfl]
        have := (hbt hb2).2 (by omega)
        have := cn_le hF ha hl
        omega
    have hxx : 0 < n → x ≤ x' := by
      intro h0
      obtain ⟨g1, g2, g3, g4, g5, g6⟩ := h6 h0
      rw [hx']
      cases hb2 : b
      · rw [if_neg Bool.false_ne_true]; exact g4 j (Nat.le_refl _) (hbf hb2).1
      · rw [if_pos rfl]; exact g2 i (Nat.le_refl _) (hbt hb2).1
    -- between x and x' the rows are as the parities say
    have hmE : ∀ y, (∀ a, a < i → eE E a ≤ y) → y < x' → mE E y = decide (i % 2 = 1) := fun y h h' => mE_par hE h2 h (fun a ha hl => by have := hEx a ha hl; omega)
    have hmF : ∀ y, (∀ a, a < j → eE F a ≤ y) → y < x' → mE F y = decide (j % 2 = 1) := fun y h h' => mE_par hF h3 h (fun a ha hl => by have := hFx a ha hl; omega)
    rw [hs]
    unfold cmI
    dsimp only
    have hcount : (if b = true then i + 1 else i) + (if b = true then j else j + 1) = n + 1 := by split <;> omega
    have hiE : (if b = true then i + 1 else i) ≤ E.length := by
      split
      · next h => have := (hbt h).1; omega
      · exact h2
    have hjF : (if b = true then j else j + 1) ≤ F.length := by
      split
      · exact h3
      · next h => have := (hbf (by simpa using h)).1; omega
    refine ⟨hcount, hiE, hjF, ?_, fun h => by omega, fun _ => ⟨?_, ?_, ?_, ?_, ?_, ?_⟩⟩
    · by_cases hop : opk k (decide (i % 2 = 1)) (decide (j % 2 = 1)) = true
      · rw [if_pos hop]
        refine (sp_add h4 ?_).1
        by_cases h0 : n = 0
        · exact Or.inl (by rw [h5 h0]; rfl)
        · by_cases hz : C.length = 0
          · exact Or.inl hz
          · exact Or.inr ((h6 (by omega)).2.2.2.2.1 _ (by omega))
      · rw [if_neg hop]; exact h4
    · intro a ha
      by_cases hai : a < i
      · exact Int.le_trans ((h6 (by omega)).1 a hai) (hxx (by omega))
      · cases hb2 : b
        · rw [hb2, if_neg Bool.false_ne_true] at ha; omega
        · rw [hb2, if_pos rfl] at ha hx'
          rw [hx', show a = i by omega]; exact Int.le_refl _
    · intro a ha hl
      refine hEx a ?_ hl
      revert ha; split <;> omega
    · intro a ha
      by_cases hai : a < j
      · exact Int.le_trans ((h6 (by omega)).2.2.1 a hai) (hxx (by omega))
      · cases hb2 : b
        · rw [hb2, if_neg Bool.false_ne_true] at ha hx'
          rw [hx', show a = j by omega]; exact Int.le_refl _
        · rw [hb2, if_pos rfl] at ha; omega
    · intro a ha hl
      refine hFx a ?_ hl
      revert ha; split <;> omega
    · intro a ha
      by_cases hop : opk k (decide (i % 2 = 1)) (decide (j % 2 = 1)) = true
      · rw [if_pos hop] at ha ⊢
        have h0 : 0 < n := by
          apply Classical.byContradiction
          intro z
          rw [show i = 0 by omega, show j = 0 by omega] at hop
          have : opk k false false = true := hop
          rw [opk_ff] at this; cases this
        refine sp_last h4 (fun a ha => ?_) (hxx h0) (Int.le_refl _) a ha
        exact Int.le_trans ((h6 h0).2.2.2.2.1 a ha) (hxx h0)
      · rw [if_neg hop] at ha ⊢
        by_cases h0 : n = 0
        · rw [h5 h0] at ha; exact absurd ha (by show ¬ a < 0; omega)
        · exact Int.le_trans ((h6 (by omega)).2.2.2.2.1 a ha) (hxx (by omega))
    · intro y
      by_cases h0 : n = 0
      · have hi0 : i = 0 := by omega
        have hj0 : j = 0 := by omega
        have hop : ¬ opk k (decide (i % 2 = 1)) (decide (j % 2 = 1)) = true := by
          rw [hi0, hj0]
          show ¬ opk k false false = true
          rw [opk_ff]; exact Bool.false_ne_true
        rw [if_neg hop, h5 h0, mE_nil]
        by_cases hy : y < x'
        · rw [hmE y (fun a ha => by omega) hy, hmF y (fun a ha => by omega) hy, hi0, hj0]
          show false = (opk k false false && _)
          rw [opk_ff, Bool.false_and]
        · rw [decide_eq_false hy, Bool.and_false]
      · obtain ⟨g1, g2, g3, g4, g5, g6⟩ := h6 (by omega)
        have hx := hxx (by omega)
        by_cases hop : opk k (decide (i % 2 = 1)) (decide (j % 2 = 1)) = true
        · rw [if_pos hop]
          have hls : lsE C x := by
            by_cases hz : C.length = 0
            · exact Or.inl hz
            · exact Or.inr (g5 _ (by omega))
          rw [(sp_add h4 hls).2.1 y, g6 y]
          by_cases hyx : y < x
          · rw [decide_eq_true hyx, decide_eq_true (by omega : y < x'), decide_eq_false (by omega : ¬ x ≤ y), Bool.false_and, Bool.or_false]
          · by_cases hy : y < x'
            · rw [decide_eq_false hyx, decide_eq_true hy, decide_eq_true (by omega : x ≤ y), hmE y (fun a ha => by have := g1 a ha; omega) hy, hmF y (fun a ha => by have := g3 a ha; omega) hy, hop]; rfl
            · rw [decide_eq_false hyx, decide_eq_false hy]; simp
        · rw [if_neg hop, g6 y]
          by_cases hyx : y < x
          · rw [decide_eq_true hyx, decide_eq_true (by omega : y < x')]
          · by_cases hy : y < x'
            · rw [hmE y (fun a ha => by have := g1 a ha; omega) hy, hmF y (fun a ha => by have := g3 a ha; omega) hy]
              have hop2 : opk k (decide (i % 2 = 1)) (decide (j % 2 = 1)) = false := by simpa using hop
              rw [hop2]; rfl
            · rw [decide_eq_false hyx, decide_eq_false hy]
theorem cm_set {E F : List Int} (hE : cnE E) (hF : cnE F) (k : Nat) : cnE (cmE k E F) ∧ ∀ x, mE (cmE k E F) x = opk k (mE E x) (mE F x) := by
  have h := cm_inv hE hF k (E.length + F.length) (Nat.le_refl _)
  obtain ⟨h1, h2, h3, h4, h5, h6⟩ := h
  refine ⟨h4, fun x => ?_⟩
  unfold cmE
  by_cases h0 : E.length + F.length = 0
  · have e1 : E = [] := List.length_eq_zero_iff.mp (by omega)
    have e2 : F = [] := List.length_eq_zero_iff.mp (by omega)
    subst e1; subst e2
    rw [show (cmS k [] [] ([].length + [].length)).2.2.2 = [] from rfl, mE_nil, opk_ff]
  · obtain ⟨g1, g2, g3, g4, g5, g6⟩ := h6 (by omega)
    rw [g6 x]
    have e1 : (cmS k E F (E.length + F.length)).1 = E.length := by omega
    have e2 : (cmS k E F (E.length + F.length)).2.1 = F.length := by omega
    by_cases hx : x < (cmS k E F (E.length + F.length)).2.2.1
    · rw [decide_eq_true hx, Bool.and_true]
    · rw [decide_eq_false hx, Bool.and_false]
      have hEl : mE E x = false := by
        rw [mE_par hE (Nat.le_refl _) (fun a ha => by have := g1 a (by omega); omega) (fun a ha hb => by omega)]
        exact decide_eq_false (by have := hE.1; omega)
      have hFl : mE F x = false := by
        rw [mE_par hF (Nat.le_refl _) (fun a ha => by have := g3 a (by omega); omega) (fun a ha hb => by omega)]
        exact decide_eq_false (by have := hF.1; omega)
      rw [hEl, hFl, opk_ff]
/-- all that a merge makes on its way is short when both rows lie between a and b -/
theorem cm_len {E F : List Int} (hE : cnE E) (hF : cnE F) (k : Nat) {a b : Int} (hab : a ≤ b) (hEm : ∀ x, mE E x = true → a ≤ x ∧ x < b) (hFm : ∀ x, mE F x = true → a ≤ x ∧ x < b) {n : Nat} (hn : n ≤ E.length + F.length) : ((cmS k E F n).2.2.2.length : Int) ≤ b - a + 1 := by
  obtain ⟨h1, h2, h3, h4, h5, h6⟩ := cm_inv hE hF k n hn
  by_cases h0 : n = 0
  · rw [h5 h0]; show ((0 : Nat) : Int) ≤ _; omega
  · refine cn_len h4 (fun x hx => ?_) hab
    rw [(h6 (by omega)).2.2.2.2.2 x, Bool.and_eq_true] at hx
    cases he : mE E x
    · cases hf : mE F x
      · rw [he, hf, opk_ff] at hx; exact absurd hx.1 Bool.false_ne_true
      · exact hFm x hf
    · exact hEm x he
