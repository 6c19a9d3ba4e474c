set_option maxRecDepth 100000
theorem spadd_le (E : List Int) (l r : Int) : (spadd E l r).length ≤ E.length + 2 := by
  unfold spadd
  split
  · omega
  · split
    · rename_i h; rw [len_set h.1]; omega
    · rw [List.length_append]; exact Nat.le_refl _
theorem mvE_len (E : List Int) (dl dr : Int) (k : Nat) : (mvE E dl dr k).length ≤ 2 * k := by
  induction k with
  | zero => exact Nat.le_refl _
  | succ k ih => rw [mvE]; exact Nat.le_trans (spadd_le _ _ _) (by omega)
theorem mrE_len (E : List Int) (n k : Nat) : (mrE E n k).length ≤ 2 * k := by
  induction k with
  | zero => exact Nat.le_refl _
  | succ k ih => rw [mrE]; exact Nat.le_trans (spadd_le _ _ _) (by omega)
theorem trE_len (L : List Bnd) (x : Int) (k : Nat) : (trE L x k).length ≤ 2 * k := by
  induction k with
  | zero => exact Nat.le_refl _
  | succ k ih =>
    rw [trE]
    split
    · exact Nat.le_trans (spadd_le _ _ _) (by omega)
    · omega
theorem wdnF_len (L : List Bnd) (d : Int) (k : Nat) : (wdnF L d k).length ≤ k := by
  induction k with
  | zero => exact Nat.le_refl _
  | succ k ih => rw [wdnF]; exact radd_n ih
theorem groF_len (W : List Bnd) (y d : Int) (k : Nat) : (groF W y d k).length ≤ k := by
  induction k with
  | zero => exact Nat.le_refl _
  | succ k ih => rw [groF]; exact radd_n ih
theorem movF_len (L : List Bnd) (r u : Int) (k : Nat) : (movF L r u k).length ≤ k := by
  induction k with
  | zero => exact Nat.le_refl _
  | succ k ih => rw [movF]; exact radd_n ih
theorem mirF_len (L : List Bnd) (k : Nat) : (mirF L k).length ≤ k := by
  induction k with
  | zero => exact Nat.le_refl _
  | succ k ih => rw [mirF]; exact radd_n ih
theorem turF_len (L : List Bnd) (k : Nat) : (turF L k).length ≤ k := by
  induction k with
  | zero => exact Nat.le_refl _
  | succ k ih => rw [turF]; exact radd_n ih
/-- a combination's result -/
def cmbR (k : Nat) (A B R : List Bnd) : Prop := ∃ N, ¬ (rcm k A B N).1 < nhAll A B (rcm k A B N).1 ∧ R = (rcm k A B N).2
theorem It.ty {w : pb_W} {H : Heap} {i a k n : Nat} (h : It w H i a k n) : pb_Ty w H i 16 := (pb_O.r h).ty.1
theorem Sp.it {w : pb_W} {H H1 : Heap} {P : Nat → Prop} {s i a k n : Nat} {E : List Int} (h : Sp w H P s E) (hI : pb_I w) (hi : It w H i a k n) (f : pb_F (fun q => q ≠ i) H H1) : Sp w H1 P s E :=
  h.fr f (fun q hq => hq.ne hI hi.ty (by decide) (by decide) (by decide)) (fun q hq => hq.ne hI hi.ty (by decide) (by decide) (by decide))
theorem Sp.any {w : pb_W} {H : Heap} {P : Nat → Prop} {s : Nat} {E : List Int} (h : Sp w H P s E) : Sp w H (fun _ => True) s E := h.mono fun _ _ _ => trivial
theorem Sp.kall {w : pb_W} {H H1 : Heap} {P : Nat → Prop} {s : Nat} {E : List Int} (h : Sp w H P s E) (f : pb_F (fun q => q < H.size) H H1) : Sp w H1 P s E := by
  obtain ⟨e, m, g, a1, a2, a3, a4, a5⟩ := h
  exact ⟨e, m, g, a1, a2, a3.kept (f.2 _ a3.lt a3.lt), a4.kept (f.2 _ a4.lt a4.lt), a5⟩
theorem Rb.it {w : pb_W} {H H1 : Heap} {z a i t k n : Nat} {L : List Bnd} (h : Rb w H z a L) (hI : pb_I w) (h0 : pb_Ty w H (w.2.2.1 0) 23) (hi : It w H i t k n) (f : pb_F (fun q => q ≠ i) H H1) : Rb w H1 z a L := by
  obtain ⟨t, e, V, h1, h2, h3, h4, h5, h6⟩ := h
  exact ⟨t, e, V, h1, h2.kept (f.2 _ h2.lt (h2.ty.1.ne hI hi.ty (by decide) (by decide) (by decide))), h3.kept (f.2 _ h3.2.1.lt (h3.2.1.r.ty.1.ne hI hi.ty (by decide) (by decide) (by decide))) (fun _ b => f.2 _ b ((h3.ty h0).ne hI hi.ty (by decide) (by decide) (by decide))), h4, fun j hj => (h5 j hj).kf (f.mono fun q _ h => by
    rcases h.2 with h | h | h <;> exact h.ne hI hi.ty (by decide) (by decide) (by decide)), h6⟩
/-- an iterator is kept by the growth of a region -/
theorem It.fa {w : pb_W} {H H1 : Heap} {i a k n z : Nat} (h : It w H i a k n) (f : pb_F (fA w H z) H H1) : It w H1 i a k n := pb_O.kept h (f.2 _ (pb_O.lt h) (fA.of 16 h.ty (by decide)))
theorem It.kall {w : pb_W} {H H1 : Heap} {i a k n : Nat} (h : It w H i a k n) (f : pb_F (fun q => q < H.size) H H1) : It w H1 i a k n := pb_O.kept h (f.2 _ (pb_O.lt h) (pb_O.lt h))
theorem BO.low {w : pb_W} {H : Heap} {z z2 b : Nat} {x : Bnd} (h : BO w H z b x) (hz : z2 ≤ z) : BO w H z2 b x := by
  obtain ⟨h1, s, h2, h3, h4⟩ := h
  exact ⟨by omega, s, h2, h3.mono (fun q _ hq => Nat.le_trans hz hq), h4⟩
theorem Rb.lw {w : pb_W} {H : Heap} {z z2 a : Nat} {L : List Bnd} (h : Rb w H z a L) (hz : z2 ≤ z) : Rb w H z2 a L := by
  obtain ⟨t, e, V, h1, h2, h3, h4, h5, h6⟩ := h
  refine ⟨t, e, V, by omega, h2, ⟨by have := h3.1; omega, h3.2.1, ?_⟩, h4, fun j hj => (h5 j hj).low hz, h6⟩
  rcases h3.2.2 with h | ⟨h, h7, h8⟩
  · exact Or.inl h
  · exact Or.inr ⟨h, by omega, h8⟩
def growT (L : List Bnd) (d : Int) : Nat := if L.length = 0 then 0 else ((bd L (L.length - 1)).2.1 + d - (lowF L - d)).toNat
def groR (L : List Bnd) (d : Int) : List Bnd := groF (wdnF L d L.length) (lowF L - d) d (growT L d)
theorem rpC_le {n m : Nat} (h : n ≤ m) : rpC n 0 ≤ rpC m 0 := by
  unfold rpC
  have := lC_le h
  have h0 : lC 0 = 0 := rfl
  omega
theorem rpS_le {n m : Nat} (h : n ≤ m) : rpS n 0 ≤ rpS m 0 := by
  unfold rpS
  have := lS_le h
  have h0 : lS 0 = 0 := rfl
  omega
