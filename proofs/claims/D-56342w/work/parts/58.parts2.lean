set_option maxRecDepth 100000
def paK (RR : List Rct) (ro : Nat → Nat) (x y : Int) : Nat → Option Nat
  | 0 => none
  | k + 1 => if coR (rc RR k) x y = true then some (ro k) else paK RR ro x y k
/-- the row of a part, from the i-th rectangle on -/
def roE (RR : List Rct) (ro : Nat → Nat) (i0 i : Nat) : Nat → List Int
  | 0 => []
  | j + 1 => spadd (roE RR ro i0 i j) (rc RR (i + j)).1 (if ro (i + j) = i0 then (rc RR (i + j)).2.2.1 else (rc RR (i + j)).1)
theorem roE_len (RR : List Rct) (ro : Nat → Nat) (i0 i j : Nat) : (roE RR ro i0 i j).length ≤ 2 * j := by
  induction j with
  | zero => exact Nat.le_refl _
  | succ j ih => rw [roE]; exact Nat.le_trans (spadd_le _ _ _) (by omega)
def sameLow (RR : List Rct) (i c : Nat) : Prop := ∀ j, j < c → i + j < RR.length ∧ (rc RR (i + j)).2.1 = (rc RR i).2.1
/-- the bands of a part, after m rows: i rectangles are done -/
def rgS (RR : List Rct) (ro : Nat → Nat) (i0 : Nat) : Nat → Nat → List Bnd → Prop
  | 0, i, R => i = 0 ∧ R = []
  | m + 1, i, R => ∃ (i1 c : Nat) (R1 : List Bnd), rgS RR ro i0 m i1 R1 ∧ i1 < RR.length ∧ 0 < c ∧ i = i1 + c ∧ sameLow RR i1 c ∧ (i = RR.length ∨ (rc RR i).2.1 ≠ (rc RR i1).2.1) ∧ R = radd R1 (rc RR i1).2.1 (rc RR i1).2.2.2 (roE RR ro i0 i1 c)
theorem Pw.fr {w : pb_W} {H H1 : Heap} {z c : Nat} {s : pSt} {Q : Nat → Prop} (h : Pw w H z c s) (h0 : pb_Ty w H (w.2.2.1 0) 23) (f : pb_F Q H H1) (hQ : ∀ q k, k < 25 → k ≠ 16 → pb_Ty w H q k → Q q) : Pw w H1 z c s := by
  obtain ⟨t, e, V, P, hzc, hO, hLb, hVn, hRO, hds, hFO, hzV⟩ := h
  exact ⟨t, e, V, P, hzc, hO.kept (f.2 _ hO.lt (hQ _ 8 (by decide) (by decide) hO.r.ty.1)), hLb.kept (f.2 _ hLb.2.1.lt (hQ _ 15 (by decide) (by decide) hLb.2.1.r.ty.1)) (fun _ h => f.2 _ h (hQ _ 23 (by decide) (by decide) (hLb.ty h0))), hVn, hRO.kept f (fun q h => hQ _ 9 (by decide) (by decide) h), hds, hFO, hzV⟩
theorem Pw.all {w : pb_W} {H H1 : Heap} {z c : Nat} {s : pSt} (h : Pw w H z c s) (f : pb_F (fun _ => True) H H1) : Pw w H1 z c s := by
  obtain ⟨t, e, V, P, hzc, hO, hLb, hVn, hRO, hds, hFO, hzV⟩ := h
  exact ⟨t, e, V, P, hzc, hO.kept (f.2 _ hO.lt trivial), hLb.kept (f.2 _ hLb.2.1.lt trivial) (fun _ h => f.2 _ h trivial), hVn, hRO.kept f (fun q h => trivial), hds, hFO, hzV⟩
theorem Pw.lt {w : pb_W} {H : Heap} {z c : Nat} {s : pSt} (h : Pw w H z c s) : z ≤ c ∧ c < H.size := by
  obtain ⟨t, e, V, P, hzc, hO, h⟩ := h
  exact ⟨hzc, hO.lt⟩
theorem Pw.o {w : pb_W} {H : Heap} {z c : Nat} {s : pSt} (h : Pw w H z c s) : ∃ fs, pb_R w H c 8 fs := by
  obtain ⟨t, e, V, P, hzc, hO, h⟩ := h
  exact ⟨_, hO.r⟩
theorem ROall {w : pb_W} {H0 H : Heap} {V : List Nat} {RR : List Rct} {P : Nat → Nat} (h : RO w H0 V RR P) (f : pb_F (fun q => q < H0.size) H0 H) : RO w H V RR P := fun i hi => ⟨(h i hi).1.kept (f.2 _ (h i hi).1.lt (h i hi).1.lt), (h i hi).2⟩
theorem ROat {w : pb_W} {H0 H : Heap} {V : List Nat} {RR : List Rct} {P : Nat → Nat} (h : RO w H0 V RR P) (f : pb_F (fun q => q < H0.size) H0 H) (i : Nat) (hi : i < RR.length) : pb_O w H (nV V i) 9 (rF (rc RR i) (nV V (P i))) ∧ rgR (rc RR i) := ROall h f i hi
