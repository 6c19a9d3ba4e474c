set_option maxRecDepth 100000
/-! rectangles and the parts to which they belong -/
abbrev Rct : Type := Int × Int × Int × Int
def rc (RR : List Rct) (i : Nat) : Rct := RR.getD i (0, 0, 0, 0)
theorem rc_app {L : List Rct} {j : Nat} (h : j < L.length) (x : Rct) : rc (L ++ [x]) j = rc L j := by
  unfold rc
  rw [List.getD_eq_getElem?_getD, List.getD_eq_getElem?_getD, List.getElem?_append_left h]
theorem rc_last (L : List Rct) (x : Rct) : rc (L ++ [x]) L.length = x := by
  unfold rc
  rw [List.getD_eq_getElem?_getD, List.getElem?_append_right (Nat.le_refl _), Nat.sub_self]; rfl
abbrev rF (r : Rct) (p : Nat) : List Value := [.int (iZ r.1), .int (iZ r.2.1), .int (iZ r.2.2.1), .int (iZ r.2.2.2), .ref p]
def unR (a b : Rct) : Bool := decide (a.2.2.2 = b.2.1 ∧ a.1 < b.2.2.1 ∧ b.1 < a.2.2.1)
def coR (a : Rct) (x y : Int) : Bool := decide (a.1 ≤ x ∧ x ≤ a.2.2.1 - 1) && decide (a.2.1 ≤ y ∧ y ≤ a.2.2.2 - 1)
def rgR (a : Rct) : Prop := (-1000 ≤ a.1 ∧ a.1 ≤ 1000) ∧ (-1000 ≤ a.2.1 ∧ a.2.1 ≤ 1000) ∧ (-1000 ≤ a.2.2.1 ∧ a.2.2.1 ≤ 1000) ∧ (-1000 ≤ a.2.2.2 ∧ a.2.2.2 ≤ 1000)
def mgR (ro : Nat → Nat) (a b : Nat) : Nat → Nat := fun i => if ro i = a then b else ro i
/-- pointers P lead to the roots ro -/
def FO_ (n : Nat) (P ro : Nat → Nat) : Prop := (∃ dep : Nat → Nat, ∀ i, i < n → P i ≠ i → dep (P i) < dep i) ∧ ∀ i, i < n → P i < n ∧ ro (P i) = ro i ∧ (P i = i → ro i = i) ∧ ro i < n ∧ P (ro i) = ro i
theorem FO_mg {n : Nat} {P ro : Nat → Nat} {a b : Nat} (h : FO_ n P ro) (ha : a < n) (hb : b < n) (hPa : P a = a) (hPb : P b = b) (hab : a ≠ b) : FO_ n (va_up P a b) (mgR ro a b) := by
  obtain ⟨⟨dep, hd⟩, h⟩ := h
  have hra : ro a = a := (h a ha).2.2.1 hPa
  have hrb : ro b = b := (h b hb).2.2.1 hPb
  refine ⟨⟨fun i => if ro i = a then dep i + dep b + 1 else dep i, fun i hi hne => ?_⟩, fun i hi => ?_⟩
  · unfold va_up at hne ⊢
    by_cases e : i = a
    · subst e
      rw [if_pos rfl]
      show (if ro b = i then _ else dep b) < (if ro i = i then _ else _)
      rw [if_neg (by rw [hrb]; exact Ne.symm hab), if_pos hra]; omega
    · rw [if_neg e] at hne ⊢
      have := hd i hi hne
      show (if ro (P i) = a then _ else _) < (if ro i = a then _ else _)
      rw [(h i hi).2.1]
      split <;> omega
  · unfold va_up mgR
    obtain ⟨h1, h2, h3, h4, h5⟩ := h i hi
    by_cases e : i = a
    · subst e
      rw [if_pos rfl, if_neg (by rw [hrb]; exact Ne.symm hab), if_pos hra, hrb, if_neg (Ne.symm hab)]
      exact ⟨hb, rfl, fun z => absurd z.symm hab, hb, hPb⟩
    · rw [if_neg e, h2]
      refine ⟨h1, rfl, fun z => ?_, ?_, ?_⟩
      · rw [h3 z, if_neg e]
      · split
        · exact hb
        · exact h4
      · by_cases e2 : ro i = a
        · rw [if_pos e2, if_neg (Ne.symm hab)]; exact hPb
        · rw [if_neg e2, if_neg e2]; exact h5
theorem FO_new {n : Nat} {P ro : Nat → Nat} (h : FO_ n P ro) : FO_ (n + 1) (va_up P n n) (va_up ro n n) := by
  obtain ⟨⟨dep, hd⟩, h⟩ := h
  have e1 : ∀ (f : Nat → Nat) (i : Nat), i ≠ n → va_up f n n i = f i := fun f i hi => if_neg hi
  have e2 : ∀ (f : Nat → Nat), va_up f n n n = n := fun f => if_pos rfl
  refine ⟨⟨dep, fun i hi hne => ?_⟩, fun i hi => ?_⟩
  · by_cases e : i = n
    · subst e; exact absurd (e2 P) hne
    · rw [e1 P i e] at hne ⊢; exact hd i (by omega) hne
  · by_cases e : i = n
    · subst e
      rw [e2 P, e2 ro, e2 P]
      exact ⟨by omega, rfl, fun _ => rfl, by omega, rfl⟩
    · obtain ⟨h1, h2, h3, h4, h5⟩ := h i (by omega)
      rw [e1 P i e, e1 ro i e, e1 ro (P i) (by omega), e1 P (ro i) (by omega)]
      exact ⟨by omega, h2, h3, by omega, h5⟩
/-- the rectangles' objects -/
def RO (w : pb_W) (H : Heap) (V : List Nat) (RR : List Rct) (P : Nat → Nat) : Prop := ∀ i, i < RR.length → pb_O w H (nV V i) 9 (rF (rc RR i) (nV V (P i))) ∧ rgR (rc RR i)
def dsV (V : List Nat) : Prop := ∀ i j, i < V.length → j < V.length → i ≠ j → nV V i ≠ nV V j
theorem RO.kept {w : pb_W} {H H1 : Heap} {V : List Nat} {RR : List Rct} {P : Nat → Nat} (h : RO w H V RR P) {Q : Nat → Prop} (f : pb_F Q H H1) (hq : ∀ q, pb_Ty w H q 9 → Q q) : RO w H1 V RR P := fun i hi => ⟨(h i hi).1.kept (f.2 _ (h i hi).1.lt (hq _ (h i hi).1.r.ty.1)), (h i hi).2⟩
theorem RO.up {w : pb_W} {H H1 : Heap} {V : List Nat} {RR : List Rct} {P : Nat → Nat} {a b : Nat} (h : RO w H V RR P) (hd : dsV V) (hl : V.length = RR.length) (ha : a < RR.length) (hO : pb_O w H1 (nV V a) 9 (rF (rc RR a) (nV V b))) (u : pb_Up (nV V a) H H1) : RO w H1 V RR (va_up P a b) := by
  intro i hi
  unfold va_up
  by_cases e : i = a
  · subst e; rw [if_pos rfl]; exact ⟨hO, (h i hi).2⟩
  · rw [if_neg e]; exact ⟨(h i hi).1.kept (u.2 _ (hd i a (by omega) (by omega) e)), (h i hi).2⟩
theorem RO.el {w : pb_W} {H : Heap} {V : List Nat} {RR : List Rct} {P : Nat → Nat} (h : RO w H V RR P) {i : Nat} (hi : i < RR.length) : pb_El w H (nV V i) := ⟨9, _, _, (h i hi).1.r, rfl, q2156⟩
theorem RO_app {w : pb_W} {H : Heap} {V : List Nat} {RR : List Rct} {P : Nat → Nat} {b : Nat} {r : Rct} (h : RO w H V RR P) (hl : V.length = RR.length) (hP : ∀ i, i < RR.length → P i < RR.length) (hb : pb_O w H b 9 (rF r b)) (hr : rgR r) : RO w H (V ++ [b]) (RR ++ [r]) (va_up P RR.length RR.length) := by
  intro i hi
  rw [List.length_append, List.length_singleton] at hi
  unfold va_up
  by_cases e : i = RR.length
  · subst e
    rw [if_pos rfl, rc_last, ← hl, nV_last]
    exact ⟨hb, hr⟩
  · have h1 := h i (by omega)
    rw [if_neg e, rc_app (by omega), nV_app (by omega), nV_app (by have := hP i (by omega); omega)]
    exact h1
theorem dsV_app {V : List Nat} {b : Nat} (h : dsV V) (hb : ∀ i, i < V.length → nV V i ≠ b) : dsV (V ++ [b]) := by
  intro i j hi hj hij
  rw [List.length_append, List.length_singleton] at hi hj
  by_cases h1 : i < V.length
  · by_cases h2 : j < V.length
    · rw [nV_app h1, nV_app h2]; exact h i j h1 h2 hij
    · rw [nV_app h1, show j = V.length by omega, nV_last]; exact hb i h1
  · by_cases h2 : j < V.length
    · rw [nV_app h2, show i = V.length by omega, nV_last]; exact Ne.symm (hb j h2)
    · omega
/-- a scan for parts: its object c, the list t of the rectangles found -/
def viK (RR : List Rct) (r : Rct) (ro : Nat → Nat) (p : Int) : Nat → (Nat → Nat) × Int
  | 0 => (va_up ro RR.length RR.length, p + 1)
  | k + 1 => if unR (rc RR k) r = true ∧ (viK RR r ro p k).1 k ≠ (viK RR r ro p k).1 RR.length then (mgR (viK RR r ro p k).1 ((viK RR r ro p k).1 RR.length) ((viK RR r ro p k).1 k), (viK RR r ro p k).2 - 1) else viK RR r ro p k
abbrev pSt : Type := List Rct × (Nat → Nat) × Int
def paS (s : pSt) (l lo r hi : Int) : pSt := (s.1 ++ [(l, lo, r, hi)], viK s.1 (l, lo, r, hi) s.2.1 s.2.2 s.1.length)
def Pw (w : pb_W) (H : Heap) (z c : Nat) (s : pSt) : Prop := ∃ (t e : Nat) (V : List Nat) (P : Nat → Nat), z ≤ c ∧ pb_O w H c 8 [.int (iZ ((s.1.length : Nat) : Int)), .ref t, .int (iZ s.2.2)] ∧ Lb w H z t e V ∧ V.length = s.1.length ∧ RO w H V s.1 P ∧ dsV V ∧ FO_ s.1.length P s.2.1 ∧ ∀ i, i < V.length → z ≤ nV V i
/-- what a visit leaves alone -/
def fP (w : pb_W) (H : Heap) (z q : Nat) : Prop := q < z ∨ pb_Ty w H q 16
/-- what pays for the growth up to N rectangles -/
def rpP (N n : Nat) : Nat := 2 * (N - n) + (lC N - lC n)
def rpQ (N n : Nat) : Nat := 9 * (N - n) + (lS N - lS n)
theorem rpP_step {N n : Nat} (h : n < N) : rpP N n = 2 + (lC (n + 1) - lC n) + rpP N (n + 1) ∧ rpQ N n = 9 + (lS (n + 1) - lS n) + rpQ N (n + 1) := by
  unfold rpP rpQ
  have h1 := lC_le (n := n) (m := n + 1) (by omega)
  have h2 := lC_le (n := n + 1) (m := N) (by omega)
  have h3 := lS_le (n := n) (m := n + 1) (by omega)
  have h4 := lS_le (n := n + 1) (m := N) (by omega)
  omega
def cntR (L : List Bnd) : Nat → Nat
  | 0 => 0
  | k + 1 => cntR L k + (bE L k).length / 2
theorem scE_len (lo hi : Int) (E : List Int) (s : pSt) (j : Nat) : (scE paS lo hi E s j).1.length = s.1.length + j := by
  induction j with
  | zero => rfl
  | succ j ih => rw [scE]; show (_ ++ [_]).length = _; rw [List.length_append, ih]; rfl
theorem scL_len (L : List Bnd) (s : pSt) (k : Nat) : (scL paS L s k).1.length = s.1.length + cntR L k := by
  induction k with
  | zero => rfl
  | succ k ih => rw [scL, scE_len, ih, cntR]; omega
theorem cntR_le (L : List Bnd) {k m : Nat} (h : k ≤ m) : cntR L k ≤ cntR L m := by
  induction m with
  | zero => rw [show k = 0 by omega]; exact Nat.le_refl _
  | succ m ih =>
    by_cases e : k = m + 1
    · rw [e]; exact Nat.le_refl _
    · rw [cntR]; have := ih (by omega); omega
theorem fP.tr {w : pb_W} {H0 H H1 : Heap} {z : Nat} {Q : Nat → Prop} (h : pb_F (fP w H0 z) H0 H) (f : pb_F Q H H1) (hQ : ∀ q, q < H0.size → (q < z ∨ pb_Ty w H q 16) → Q q) : pb_F (fP w H0 z) H0 H1 :=
  ⟨Nat.le_trans h.1 f.1, fun q hq hp => (f.2 q (Nat.lt_of_lt_of_le hq h.1) (hQ q hq (hp.imp id (fun ⟨c9, a9, b9⟩ => ⟨c9, (h.2 q hq hp).trans a9, b9⟩)))).trans (h.2 q hq hp)⟩
theorem fP.u {w : pb_W} {H : Heap} {z x k n : Nat} (hI : pb_I w) (hz : z ≤ x) (hx : pb_Ty w H x k) (hk : k < 25 ∧ 16 ≠ k) : ∀ q, q < n → (q < z ∨ pb_Ty w H q 16) → q ≠ x := by
  intro q _ h
  rcases h with h | h
  · omega
  · exact h.ne hI hx (by decide) hk.1 hk.2
theorem dsV.inj {V : List Nat} (h : dsV V) {i j : Nat} (hi : i < V.length) (hj : j < V.length) (e : nV V i = nV V j) : i = j := by
  by_cases h2 : i = j
  · exact h2
  · exact absurd e (h i j hi hj h2)
theorem viK_no {RR : List Rct} {r : Rct} {ro ro9 : Nat → Nat} {p p9 : Int} {k : Nat} (hv : viK RR r ro p k = (ro9, p9)) (h : unR (rc RR k) r = false ∨ ro9 k = ro9 RR.length) : viK RR r ro p (k + 1) = (ro9, p9) := by
  rw [viK, hv, if_neg]
  rintro ⟨h1, h2⟩
  rcases h with h | h
  · rw [h] at h1; cases h1
  · exact h2 h
theorem viK_yes {RR : List Rct} {r : Rct} {ro ro9 : Nat → Nat} {p p9 : Int} {k : Nat} (hv : viK RR r ro p k = (ro9, p9)) (h : unR (rc RR k) r = true) (h2 : ro9 k ≠ ro9 RR.length) : viK RR r ro p (k + 1) = (mgR ro9 (ro9 RR.length) (ro9 k), p9 - 1) := by
  rw [viK, hv, if_pos ⟨h, h2⟩]
theorem zV_app {V : List Nat} {z b i : Nat} (h : ∀ i, i < V.length → z ≤ nV V i) (hb : z ≤ b) (hi : i ≤ V.length) : z ≤ nV (V ++ [b]) i := by
  by_cases e : i < V.length
  · rw [nV_app e]; exact h i e
  · rw [show i = V.length by omega, nV_last]; exact hb
theorem Lb.rt {w : pb_W} {H : Heap} {z a e i b k n : Nat} {V : List Nat} (h : Lb w H z a e V) (hI : pb_I w) (h0 : pb_Ty w H (w.2.2.1 0) 23) (hi : It w H i b k n) (hn : V.length ≤ 1851) : Lr w H (fun q => q ≠ i) a V := by
  have heT := h.ty h0
  obtain ⟨h1, h2, h3⟩ := h
  refine ⟨e, h2.r.ty.1.ne hI hi.ty (by decide) (by decide) (by decide), h2.r, hn, ?_⟩
  rcases h3 with h3 | ⟨h3, h4, h5⟩
  · exact Or.inl h3.1
  · exact Or.inr ⟨heT.ne hI hi.ty (by decide) (by decide) (by decide), _, _, h5.b, capL_ge hn, capL_le _, fun j hj => if_pos hj⟩
