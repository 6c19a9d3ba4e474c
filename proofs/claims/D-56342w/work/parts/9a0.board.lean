set_option maxRecDepth 100000
/-! the board -/
theorem nV_set {V : List Nat} {i v j : Nat} (hi : i < V.length) : nV (V.set i v) j = if j = i then v else nV V j := by
  unfold nV
  rw [List.getD_eq_getElem?_getD, List.getD_eq_getElem?_getD]
  by_cases h : j = i
  · subst h; rw [if_pos rfl, List.getElem?_set_self hi]; rfl
  · rw [if_neg h, List.getElem?_set_ne (fun e => h e.symm)]
theorem vV_set {V : List Nat} {i v : Nat} (hi : i < V.length) : updV (vV V) i (.ref v) = vV (V.set i v) := by
  funext j
  unfold updV vV
  rw [List.length_set, nV_set hi]
  by_cases h : j = i
  · subst h; rw [if_pos rfl, if_pos hi, if_pos rfl]
  · rw [if_neg h, if_neg h]
/-- the board, read: its object, its list -/
def Bq (w : pb_W) (H : Heap) (P : Nat → Prop) (b sl : Nat) (pv : Value) (V : List Nat) : Prop := P b ∧ pb_R w H b 0 [.ref sl, pv] ∧ Lr w H P sl V ∧ V.length = 8
/-- a sheet's region with the grid of its cells -/
def Rq (w : pb_W) (H : Heap) (P : Nat → Prop) (a : Nat) (g : Nat → Nat) : Prop := gok g ∧ ∃ L, Rg w H P a L ∧ rs L (gc g)
def Sq (w : pb_W) (H : Heap) (P : Nat → Prop) (b sl : Nat) (pv : Value) (V : List Nat) (G : Nat → Nat → Nat) : Prop := Bq w H P b sl pv V ∧ ∀ i, i < 8 → Rq w H P (nV V i) (G i)
theorem Bq.kept {w : pb_W} {H H1 : Heap} {P : Nat → Prop} {b sl : Nat} {pv : Value} {V : List Nat} (h : Bq w H P b sl pv V) (f : pb_F P H H1) : Bq w H1 P b sl pv V :=
  ⟨h.1, h.2.1.kept (f.2 _ h.2.1.lt h.1), h.2.2.1.kept f, h.2.2.2⟩
theorem Bq.mono {w : pb_W} {H : Heap} {P P' : Nat → Prop} {b sl : Nat} {pv : Value} {V : List Nat} (h : Bq w H P b sl pv V) (hp : ∀ q, q < H.size → P q → P' q) : Bq w H P' b sl pv V :=
  ⟨hp _ h.2.1.lt h.1, h.2.1, h.2.2.1.mono hp, h.2.2.2⟩
theorem Rq.kept {w : pb_W} {H H1 : Heap} {P : Nat → Prop} {a : Nat} {g : Nat → Nat} (h : Rq w H P a g) (f : pb_F P H H1) : Rq w H1 P a g := by
  obtain ⟨hg, L, hR, hr⟩ := h
  exact ⟨hg, L, hR.kept f, hr⟩
theorem Rq.mono {w : pb_W} {H : Heap} {P P' : Nat → Prop} {a : Nat} {g : Nat → Nat} (h : Rq w H P a g) (hp : ∀ q, q < H.size → P q → P' q) : Rq w H P' a g := by
  obtain ⟨hg, L, hR, hr⟩ := h
  exact ⟨hg, L, hR.mono hp, hr⟩
theorem Sq.kept {w : pb_W} {H H1 : Heap} {P : Nat → Prop} {b sl : Nat} {pv : Value} {V : List Nat} {G : Nat → Nat → Nat} (h : Sq w H P b sl pv V G) (f : pb_F P H H1) : Sq w H1 P b sl pv V G :=
  ⟨h.1.kept f, fun i hi => (h.2 i hi).kept f⟩
theorem Sq.mono {w : pb_W} {H : Heap} {P P' : Nat → Prop} {b sl : Nat} {pv : Value} {V : List Nat} {G : Nat → Nat → Nat} (h : Sq w H P b sl pv V G) (hp : ∀ q, q < H.size → P q → P' q) : Sq w H P' b sl pv V G :=
  ⟨h.1.mono hp, fun i hi => (h.2 i hi).mono hp⟩
theorem Sq.below {w : pb_W} {H : Heap} {P : Nat → Prop} {b sl : Nat} {pv : Value} {V : List Nat} {G : Nat → Nat → Nat} (h : Sq w H P b sl pv V G) : Sq w H (fun q => q < H.size) b sl pv V G := h.mono fun _ h _ => h
/-- what the grid says of the bands -/
theorem rq_pre {L : List Bnd} {g : Nat → Nat} (hg : gok g) (hr : rs L (gc g)) : (∀ j i, -100 ≤ eE (bE L j) i ∧ eE (bE L j) i ≤ 100) ∧ (∀ j, (-100 ≤ (bd L j).1 ∧ (bd L j).1 ≤ 100) ∧ (-100 ≤ (bd L j).2.1 ∧ (bd L j).2.1 ≤ 100)) ∧ (∀ y i, 0 ≤ eE (rowL L y) i ∧ eE (rowL L y) i ≤ 24) ∧ L.length ≤ 24 := by
  obtain ⟨h1, h2, h3⟩ := rs_rg hr (gc_box hg) ⟨by decide, by decide, by decide, by decide⟩
  have h4 := rs_len hr (gc_box hg) (by decide)
  exact ⟨fun j i => by have := h1 j i; omega, fun j => by have := h2 j; omega, h3, by omega⟩
theorem rq_two {L : List Bnd} {S : Int → Int → Bool} (hr : rs L S) : ∀ j, j < L.length → 2 ≤ (bE L j).length := fun j hj => (hr.1.1 j hj).2.2
theorem rq_per {L : List Bnd} {g : Nat → Nat} (hg : gok g) (hr : rs L (gc g)) : ∀ k y, k < L.length → ∀ n, n ≤ (bE L k).length + (rowL L y).length → (cmS 3 (bE L k) (rowL L y) n).2.2.2.length ≤ 64 := by
  intro k y hk n hn
  have h := cm_len (hr.1.1 k hk).2.1 (row_cn hr.1 y) 3 (a := 0) (b := 24) (by decide) (rs_cols hr (gc_box hg) hk) (rs_row hr (gc_box hg) y) hn
  omega
theorem rq_se {L : List Bnd} {g : Nat → Nat} (hg : gok g) (hr : rs L (gc g)) (k : Nat) {f j : Nat} {E : List Int} {h : Int} {q : Int × Int} (hs : seK L f (rsF L k) j = (E, h, q, true)) (hfj : f + j < L.length) (hk : k ≤ L.length) : cnE E ∧ (∀ x, mE E x = true → 0 ≤ x ∧ x < 24) ∧ ((bd L f).1 + h = if j = 0 then (bd L f).1 else (bd L (f + j - 1)).2.1) := by
  have h1 := (se_inv hg hr (f := f) (by omega) (rs_good hg hr k hk) j (by omega)).1
  rw [hs] at h1
  obtain ⟨-, h2⟩ := h1
  obtain ⟨-, h3, h4, h5, -⟩ := h2 rfl
  exact ⟨h4, fun x hx => rs_cols hr (gc_box hg) (by omega) x ((h5 x).mp hx).1, h3⟩
theorem rsF_st (L : List Bnd) (d : Nat) : rsF L (L.length + d) = rsF L L.length := by
  induction d with
  | zero => rfl
  | succ d ih =>
    rw [← Nat.add_assoc, rsF, show L.length - (L.length + d) = 0 from by omega]
    show rsF L (L.length + d) = _
    exact ih
theorem rsF_le (L : List Bnd) (k : Nat) : ∃ k', k' ≤ L.length ∧ rsF L k = rsF L k' := by
  by_cases h : k ≤ L.length
  · exact ⟨k, h, rfl⟩
  · exact ⟨L.length, Nat.le_refl _, by rw [show k = L.length + (k - L.length) from by omega]; exact rsF_st L _⟩
theorem rq_rs {L : List Bnd} {g : Nat → Nat} (hg : gok g) (hr : rs L (gc g)) (k : Nat) : (-100000 ≤ (rsF L k).1 ∧ (rsF L k).1 ≤ 100000) ∧ (-100000 ≤ (rsF L k).2 ∧ (rsF L k).2 ≤ 100000) := by
  obtain ⟨k', hk, he⟩ := rsF_le L k
  rw [he]
  obtain ⟨h1, h2⟩ := rs_good hg hr k' hk
  constructor
  · rcases h1 with h1 | ⟨x0, w, y0, h, hf, hw, hh, h1⟩
    · omega
    · have h3 := fit_in hg hf hw hh
      have h4 : w * h ≤ 24 * 24 := Nat.mul_le_mul (by omega) (by omega)
      omega
  · rcases h2 with h2 | ⟨x0, w, y0, h, hf, hw, hh, h2⟩
    · omega
    · have h3 := fit_in hg hf hw hh
      have h4 : min w h ≤ 24 := by omega
      omega
theorem rq_se2 {L : List Bnd} {g : Nat → Nat} (hg : gok g) (hr : rs L (gc g)) (k f j : Nat) (E : List Int) (h : Int) (q : Int × Int) (hs : seK L f (rsF L k) j = (E, h, q, true)) (hfj : f + j < L.length) : (∀ n, n ≤ E.length + (bE L (f + j)).length → (cmS 1 E (bE L (f + j)) n).2.2.2.length ≤ 64) ∧ ∀ i, -100 ≤ eE (cmE 1 E (bE L (f + j))) i ∧ eE (cmE 1 E (bE L (f + j))) i ≤ 100 := by
  obtain ⟨k', hk, he⟩ := rsF_le L k
  rw [he] at hs
  obtain ⟨hE, hm, -⟩ := rq_se hg hr k' hs hfj hk
  have hF := (hr.1.1 _ hfj).2.1
  have hFm := rs_cols hr (gc_box hg) hfj
  refine ⟨fun n hn => ?_, fun i => ?_⟩
  · have h := cm_len hE hF 1 (a := 0) (b := 24) (by decide) hm hFm hn
    omega
  · obtain ⟨c1, c2⟩ := cm_set hE hF 1
    by_cases hi : i < (cmE 1 E (bE L (f + j))).length
    · have h := cn_rg c1 (a := 0) (b := 24) (fun x hx => by
        rw [c2] at hx
        by_cases e : mE E x = true
        · exact hm x e
        · rw [Bool.eq_false_iff.mpr e] at hx
          cases h9 : mE (bE L (f + j)) x <;> rw [h9] at hx <;> exact absurd hx (by decide)) hi
      omega
    · rw [eE_out (by omega)]; omega
theorem cntR_12 {L : List Bnd} {g : Nat → Nat} (hg : gok g) (hr : rs L (gc g)) : cntR L L.length ≤ 288 := by
  have h4 := rs_len hr (gc_box hg) (by decide)
  have key : ∀ k, k ≤ L.length → cntR L k ≤ 12 * k := by
    intro k
    induction k with
    | zero => intro _; exact Nat.le_refl _
    | succ k ih =>
      intro hk
      have h1 := ih (by omega)
      have h2 := cn_len (hr.1.1 k (by omega)).2.1 (a := 0) (b := 24) (rs_cols hr (gc_box hg) (by omega)) (by decide)
      rw [cntR]; omega
  have := key L.length (Nat.le_refl _)
  omega
