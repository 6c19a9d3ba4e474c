set_option maxRecDepth 100000
/-! frames around a region under construction -/
def fA (w : pb_W) (H : Heap) (z q : Nat) : Prop := q < z ∨ ∃ k, k < 25 ∧ k ≠ 4 ∧ k ≠ 15 ∧ k ≠ 23 ∧ pb_Ty w H q k
def fB (w : pb_W) (H : Heap) (z q : Nat) : Prop := q < z ∨ ∃ k, k < 25 ∧ k ≠ 15 ∧ k ≠ 23 ∧ pb_Ty w H q k
theorem fA.b {w : pb_W} {H : Heap} {z q : Nat} (h : fA w H z q) : fB w H z q := h.imp id fun ⟨k, h1, h2, h3, h4, h5⟩ => ⟨k, h1, h3, h4, h5⟩
theorem fA.of {w : pb_W} {H : Heap} {z q : Nat} (k : Nat) (h : pb_Ty w H q k) (hk : k < 25 ∧ k ≠ 4 ∧ k ≠ 15 ∧ k ≠ 23) : fA w H z q := Or.inr ⟨k, hk.1, hk.2.1, hk.2.2.1, hk.2.2.2, h⟩
theorem fB.of {w : pb_W} {H : Heap} {z q : Nat} (k : Nat) (h : pb_Ty w H q k) (hk : k < 25 ∧ k ≠ 15 ∧ k ≠ 23) : fB w H z q := Or.inr ⟨k, hk.1, hk.2.1, hk.2.2, h⟩
theorem Sp.fr {w : pb_W} {H H1 : Heap} {P Q : Nat → Prop} {s : Nat} {E : List Int} (h : Sp w H P s E) (f : pb_F Q H H1) (h3 : ∀ q, pb_Ty w H q 3 → Q q) (h19 : ∀ q, pb_Ty w H q 19 → Q q) : Sp w H1 P s E := by
  obtain ⟨e, m, g, a1, a2, a3, a4, a5⟩ := h
  exact ⟨e, m, g, a1, a2, a3.kept (f.2 _ a3.lt (h3 _ a3.ty.1)), a4.kept (f.2 _ a4.lt (h19 _ a4.ty)), a5⟩
theorem Sp.fa {w : pb_W} {H H1 : Heap} {P : Nat → Prop} {s z : Nat} {E : List Int} (h : Sp w H P s E) (f : pb_F (fA w H z) H H1) : Sp w H1 P s E :=
  h.fr f (fun q h => fA.of 3 h (by decide)) (fun q h => fA.of 19 h (by decide))
theorem BO.fb {w : pb_W} {H H1 : Heap} {z b : Nat} {x : Bnd} (h : BO w H z b x) (f : pb_F (fB w H z) H H1) : BO w H1 z b x :=
  h.kf (f.mono fun q _ hq => by
    rcases hq.2 with h | h | h
    · exact fB.of 3 h (by decide)
    · exact fB.of 19 h (by decide)
    · exact fB.of 4 h (by decide))
theorem Sp.up {w : pb_W} {H H1 : Heap} {P : Nat → Prop} {s b k : Nat} {E : List Int} (hI : pb_I w) (h : Sp w H P s E) (hb : pb_Ty w H b k) (hk : k < 25 ∧ k ≠ 3 ∧ k ≠ 19) (u : pb_Up b H H1) : Sp w H1 P s E :=
  h.fr u.f (fun q hq => hq.ne hI hb (by decide) hk.1 (Ne.symm hk.2.1)) (fun q hq => hq.ne hI hb (by decide) hk.1 (Ne.symm hk.2.2))
theorem BO.up {w : pb_W} {H H1 : Heap} {z c b : Nat} {x : Bnd} (hI : pb_I w) (h : BO w H z c x) (hb : pb_Ty w H b 4) (hne : c ≠ b) (u : pb_Up b H H1) : BO w H1 z c x := by
  obtain ⟨h1, s, h2, h3, h4⟩ := h
  exact ⟨h1, s, h2.kept (u.2 _ hne), h3.up hI hb (by decide) u, h4⟩
theorem Lb.ty {w : pb_W} {H : Heap} {z a e : Nat} {V : List Nat} (h : Lb w H z a e V) (h0 : pb_Ty w H (w.2.2.1 0) 23) : pb_Ty w H e 23 := by
  rcases h.2.2 with h3 | ⟨h3, h4, h5⟩
  · rw [h3.2]; exact h0
  · exact h5.b.ty
theorem Lb.up {w : pb_W} {H H1 : Heap} {z a e b k : Nat} {V : List Nat} (hI : pb_I w) (h : Lb w H z a e V) (h0 : pb_Ty w H (w.2.2.1 0) 23) (hb : pb_Ty w H b k) (hk : k < 25 ∧ k ≠ 15 ∧ k ≠ 23) (u : pb_Up b H H1) : Lb w H1 z a e V :=
  h.kept (u.2 _ (h.2.1.r.ty.1.ne hI hb (by decide) hk.1 (Ne.symm hk.2.1))) fun _ _ => u.2 _ ((h.ty h0).ne hI hb (by decide) hk.1 (Ne.symm hk.2.2))
theorem fA.up {w : pb_W} {H H1 : Heap} {z b : Nat} (hI : pb_I w) (hb : pb_Ty w H b 4) (hz : z ≤ b) (u : pb_Up b H H1) : pb_F (fA w H z) H H1 :=
  u.f.mono fun q _ h => by
    rcases h with h | ⟨k, h1, h2, h3, h4, h5⟩
    · show q ≠ b; omega
    · exact h5.ne hI hb h1 (by decide) h2
theorem fr_add {w : pb_W} {H0 H1 H2 : Heap} {z t e : Nat} (hI : pb_I w) (f1 : pb_F (fun q => q < H0.size) H0 H1) (f2 : pb_F (fun q => q < z ∨ (q ≠ t ∧ q ≠ e)) H1 H2) (ht : pb_Ty w H0 t 15) (he : pb_Ty w H0 e 23) : pb_F (fB w H0 z) H0 H2 :=
  ⟨Nat.le_trans f1.1 f2.1, fun q hq h => (f2.2 q (Nat.lt_of_lt_of_le hq f1.1) (by
    rcases h with h | ⟨k, h1, h3, h4, h5⟩
    · exact Or.inl h
    · exact Or.inr ⟨h5.ne hI ht h1 (by decide) h3, h5.ne hI he h1 (by decide) h4⟩)).trans (f1.2 q hq hq)⟩
theorem nV_ex {V : List Nat} {x : Nat} (h : x ∈ V) : ∃ j, j < V.length ∧ x = nV V j := by
  obtain ⟨j, hj, rfl⟩ := List.getElem_of_mem h
  refine ⟨j, hj, ?_⟩
  unfold nV
  rw [List.getD_eq_getElem?_getD, List.getElem?_eq_getElem hj]; rfl
/-- no spans -/
theorem no_sp {w : pb_W} {U : State} {H : Heap} (hG : pb_G w U H) : Sp w H (fun q => q < w.2.2.2) (w.2.2.1 1) [] := by
  obtain ⟨z, a1, a2, a3, b1, b2, b3, b4, b5, -⟩ := hG
  exact ⟨w.2.2.1 2, 8, fun _ => 0, b2, b3, b4, b5, fun i hi => absurd hi (Nat.not_lt_zero _), Nat.zero_le _, fun x hx => absurd hx List.not_mem_nil, by decide⟩
theorem Rg.rb {w : pb_W} {H : Heap} {P : Nat → Prop} {a : Nat} {L : List Bnd} (h : Rg w H P a L) (j : Nat) : (-1000 ≤ (bd L j).1 ∧ (bd L j).1 ≤ 1000) ∧ (-1000 ≤ (bd L j).2.1 ∧ (bd L j).2.1 ≤ 1000) := by
  obtain ⟨t, V, h1, h2, h3, h4, h5⟩ := h
  by_cases hj : j < L.length
  · obtain ⟨b1, s, b2, b3, b4⟩ := h5 j hj
    exact b4
  · have : bd L j = (0, 0, []) := by unfold bd; rw [List.getD_eq_getElem?_getD, List.getElem?_eq_none (by omega)]; rfl
    rw [this]; decide
theorem nhS_rg {y n x : Int} (hn : -1000 ≤ n ∧ n ≤ 1000) (hx : -1000 ≤ x ∧ x ≤ 1000) : -1000 ≤ nhS y n x ∧ nhS y n x ≤ 1000 := by
  unfold nhS; split <;> assumption
theorem nhF_rg {L : List Bnd} {y : Int} (hL : ∀ j, (-1000 ≤ (bd L j).1 ∧ (bd L j).1 ≤ 1000) ∧ (-1000 ≤ (bd L j).2.1 ∧ (bd L j).2.1 ≤ 1000)) (hy : -1000 ≤ y ∧ y ≤ 1000) (k : Nat) : -1000 ≤ nhF L y k ∧ nhF L y k ≤ 1000 := by
  induction k with
  | zero => exact hy
  | succ k ih => rw [nhF]; exact nhS_rg (nhS_rg ih (hL k).1) (hL k).2
theorem lowF_rg {L : List Bnd} (hL : ∀ j, (-1000 ≤ (bd L j).1 ∧ (bd L j).1 ≤ 1000) ∧ (-1000 ≤ (bd L j).2.1 ∧ (bd L j).2.1 ≤ 1000)) : -1000 ≤ lowF L ∧ lowF L ≤ 1000 := by
  unfold lowF; split
  · decide
  · exact (hL 0).1
def nhAll (A B : List Bnd) (y : Int) : Int := nh2 y (nhF A y A.length) (nhF B y B.length)
theorem nhAll_rg {A B : List Bnd} {y : Int} (hA : ∀ j, (-1000 ≤ (bd A j).1 ∧ (bd A j).1 ≤ 1000) ∧ (-1000 ≤ (bd A j).2.1 ∧ (bd A j).2.1 ≤ 1000)) (hB : ∀ j, (-1000 ≤ (bd B j).1 ∧ (bd B j).1 ≤ 1000) ∧ (-1000 ≤ (bd B j).2.1 ∧ (bd B j).2.1 ≤ 1000)) (hy : -1000 ≤ y ∧ y ≤ 1000) : -1000 ≤ nhAll A B y ∧ nhAll A B y ≤ 1000 := by
  have h1 := nhF_rg hA hy A.length
  have h2 := nhF_rg hB hy B.length
  unfold nhAll nh2
  split <;> omega
/-- the combination, step by step: the height reached, the bands so far -/
def cmE (k : Nat) (E F : List Int) : List Int := (cmS k E F (E.length + F.length)).2.2.2
def rcm (k : Nat) (A B : List Bnd) : Nat → Int × List Bnd
  | 0 => (min (lowF A) (lowF B), [])
  | n + 1 => (nhAll A B (rcm k A B n).1, radd (rcm k A B n).2 (rcm k A B n).1 (nhAll A B (rcm k A B n).1) (cmE k (rowL A (rcm k A B n).1) (rowL B (rcm k A B n).1)))
theorem pb_Ty.lt {w : pb_W} {H : Heap} {a k : Nat} (h : pb_Ty w H a k) : a < H.size := by
  obtain ⟨cell, h1, h2⟩ := h
  exact (Array.getElem?_eq_some_iff.mp h1).1
/-- a fresh band, behind the growth of a list -/
theorem BO.fb2 {w : pb_W} {H H1 : Heap} {z b t e : Nat} {x : Bnd} (h : BO w H z b x) (hI : pb_I w) (f : pb_F (fun q => q < z ∨ (q ≠ t ∧ q ≠ e)) H H1) (ht : pb_Ty w H t 15) (he : pb_Ty w H e 23) : BO w H1 z b x :=
  h.fb (f.mono fun q _ hq => by
    rcases hq with hq | ⟨k, h1, h2, h3, h4⟩
    · exact Or.inl hq
    · exact Or.inr ⟨h4.ne hI ht h1 (by decide) h2, h4.ne hI he h1 (by decide) h3⟩)
