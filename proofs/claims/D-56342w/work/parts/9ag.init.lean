set_option maxRecDepth 100000
theorem lc8 {k : Nat} (h : k < 8) : lC (k + 1) = 1 ∧ lS (k + 1) = 10 ∧ lC k ≤ 1 ∧ lS k ≤ 10 := by
  have h9 : ∀ i : Fin 8, lC (i.val + 1) = 1 ∧ lS (i.val + 1) = 10 ∧ lC i.val ≤ 1 ∧ lS i.val ≤ 10 := by decide
  exact h9 ⟨k, h⟩
theorem Rq.el {w : pb_W} {H : Heap} {P : Nat → Prop} {a : Nat} {g : Nat → Nat} (h : Rq w H P a g) : pb_El w H a := by
  obtain ⟨-, L9, hR9, -⟩ := h
  obtain ⟨fs9, hO9⟩ := hR9.o
  exact ⟨1, _, _, hO9, rfl, q2130⟩
theorem ini_el {w : pb_W} {H : Heap} {P : Nat → Prop} {V : List Nat} {g : Nat → Nat} (h : ∀ i, i < V.length → Rq w H P (nV V i) g) : ∀ x ∈ V, pb_El w H x := fun x hx => by
  obtain ⟨j, hj, rfl⟩ := nV_ex hx
  exact (h j hj).el
theorem ini_step {w : pb_W} {H3 H4 : Heap} {b sl e e1 r8 z0 : Nat} {V : List Nat} {g : Nat → Nat} (hRg : ∀ i, i < V.length → Rq w H3 (fun q => q ≠ b ∧ q ≠ sl ∧ q ≠ e ∧ z0 ≤ q) (nV V i) g) (hQn : Rq w H3 (fun q => r8 ≤ q ∧ q < H3.size) r8 g) (he1 : e1 = e ∨ H3.size ≤ e1) (hF2 : pb_F (fun q => q < w.2.2.2 ∨ (q ≠ sl ∧ q ≠ e)) H3 H4) (h1 : b < r8 ∧ sl < r8 ∧ e < r8 ∧ z0 ≤ r8) : ∀ i, i < (V ++ [r8]).length → Rq w H4 (fun q => q ≠ b ∧ q ≠ sl ∧ q ≠ e1 ∧ z0 ≤ q) (nV (V ++ [r8]) i) g := by
  intro i hi
  have key : ∀ {P : Nat → Prop} {a : Nat}, Rq w H3 P a g → (∀ q, q < H3.size → P q → q ≠ b ∧ q ≠ sl ∧ q ≠ e ∧ z0 ≤ q) → Rq w H4 (fun q => q ≠ b ∧ q ≠ sl ∧ q ≠ e1 ∧ z0 ≤ q) a g := by
    intro P a hQ hP
    have h2 : Rq w H3 (fun q => q < H3.size ∧ q ≠ b ∧ q ≠ sl ∧ q ≠ e ∧ z0 ≤ q) a g := hQ.mono fun q hq hp => ⟨hq, hP q hq hp⟩
    exact (h2.kept (hF2.mono fun q _ hq => Or.inr ⟨hq.2.2.1, hq.2.2.2.1⟩)).mono fun q _ hq => ⟨hq.2.1, hq.2.2.1, by have := hq.1; have := hq.2.2.2.1; omega, hq.2.2.2.2⟩
  rw [List.length_append, List.length_singleton] at hi
  by_cases c : i < V.length
  · rw [nV_app c]
    exact key (hRg i c) (fun q _ hp => hp)
  · have e9 : i = V.length := by omega
    subst e9
    rw [nV_last]
    exact key hQn (fun q _ hp => ⟨by have := hp.1; omega, by have := hp.1; omega, by have := hp.1; omega, by have := hp.1; omega⟩)
