set_option maxRecDepth 100000
/-! regions: bands (low, high, ends of the spans) -/
abbrev Bnd : Type := Int × Int × List Int
def bd (L : List Bnd) (j : Nat) : Bnd := L.getD j (0, 0, [])
theorem bd_app {L : List Bnd} {j : Nat} (h : j < L.length) (x : Bnd) : bd (L ++ [x]) j = bd L j := by
  unfold bd
  rw [List.getD_eq_getElem?_getD, List.getD_eq_getElem?_getD, List.getElem?_append_left h]
theorem bd_last (L : List Bnd) (x : Bnd) : bd (L ++ [x]) L.length = x := by
  unfold bd
  rw [List.getD_eq_getElem?_getD, List.getElem?_append_right (Nat.le_refl _), Nat.sub_self]; rfl
theorem bd_drop {L : List Bnd} {j : Nat} (h : j + 1 < L.length) (x : Bnd) : bd (L.dropLast ++ [x]) j = bd L j := by
  have hl : L.dropLast.length = L.length - 1 := List.length_dropLast
  rw [bd_app (by omega)]
  unfold bd
  rw [List.getD_eq_getElem?_getD, List.getD_eq_getElem?_getD, List.getElem?_eq_getElem (by omega), List.getElem?_eq_getElem (by omega), List.getElem_dropLast]
theorem bd_set {L : List Bnd} (h : 0 < L.length) (x : Bnd) : bd (L.dropLast ++ [x]) (L.length - 1) = x := by
  have hl : L.dropLast.length = L.length - 1 := List.length_dropLast
  rw [← hl]; exact bd_last _ _
theorem len_dr {L : List Bnd} (h : 0 < L.length) (x : Bnd) : (L.dropLast ++ [x]).length = L.length := by
  rw [List.length_append, List.length_dropLast, List.length_singleton]; omega
/-- a band is added -/
abbrev rE (lo hi : Int) (E : List Int) : Prop := hi ≤ lo ∨ E.length / 2 = 0
abbrev rJ (L : List Bnd) (lo : Int) (E : List Int) : Prop := 0 < L.length ∧ (bd L (L.length - 1)).2.1 = lo ∧ (bd L (L.length - 1)).2.2 = E
def radd (L : List Bnd) (lo hi : Int) (E : List Int) : List Bnd := if rE lo hi E then L else if rJ L lo E then L.dropLast ++ [((bd L (L.length - 1)).1, hi, E)] else L ++ [(lo, hi, E)]
abbrev rA (L : List Bnd) (lo hi : Int) (E : List Int) : Prop := ¬ rE lo hi E ∧ ¬ rJ L lo E
def radc (L : List Bnd) (lo hi : Int) (E : List Int) : Nat := if rA L lo hi E then 1 + (lC (L.length + 1) - lC L.length) else 0
def rads (L : List Bnd) (lo hi : Int) (E : List Int) : Nat := if rA L lo hi E then 3 + (lS (L.length + 1) - lS L.length) else 0
/-- what pays for the growth up to N bands -/
def rpC (N n : Nat) : Nat := (N - n) + (lC N - lC n)
def rpS (N n : Nat) : Nat := 3 * (N - n) + (lS N - lS n)
theorem radd_len (L : List Bnd) (lo hi : Int) (E : List Int) : (radd L lo hi E).length = if rA L lo hi E then L.length + 1 else L.length := by
  unfold radd
  by_cases h : rE lo hi E
  · rw [if_pos h, if_neg (fun k => k.1 h)]
  · rw [if_neg h]
    by_cases h2 : rJ L lo E
    · rw [if_pos h2, if_neg (fun k => k.2 h2), len_dr h2.1]
    · rw [if_neg h2, if_pos ⟨h, h2⟩, List.length_append, List.length_singleton]
theorem radd_pot {L : List Bnd} {lo hi : Int} {E : List Int} {N : Nat} (h : (radd L lo hi E).length ≤ N) : radc L lo hi E + rpC N (radd L lo hi E).length = rpC N L.length ∧ rads L lo hi E + rpS N (radd L lo hi E).length = rpS N L.length := by
  rw [radd_len] at h ⊢
  unfold radc rads rpC rpS
  by_cases hA : rA L lo hi E
  · rw [if_pos hA] at h ⊢
    rw [if_pos hA, if_pos hA]
    have h1 := lC_le (n := L.length) (m := L.length + 1) (by omega)
    have h2 := lC_le h
    have h3 := lS_le (n := L.length) (m := L.length + 1) (by omega)
    have h4 := lS_le h
    omega
  · rw [if_neg hA, if_neg hA, if_neg hA]; omega
theorem radd_le (L : List Bnd) (lo hi : Int) (E : List Int) : (radd L lo hi E).length ≤ L.length + 1 := by
  rw [radd_len]; split <;> omega
def rgI (x : Int) : Prop := -1000 ≤ x ∧ x ≤ 1000
/-- a band that is read; a band of a region under construction -/
def Bd (w : pb_W) (H : Heap) (P : Nat → Prop) (b : Nat) (x : Bnd) : Prop := P b ∧ ∃ s, pb_R w H b 4 [.int (iZ x.1), .ref s, .int (iZ x.2.1)] ∧ Sp w H P s x.2.2 ∧ (-1000 ≤ x.1 ∧ x.1 ≤ 1000) ∧ (-1000 ≤ x.2.1 ∧ x.2.1 ≤ 1000)
def BO (w : pb_W) (H : Heap) (z b : Nat) (x : Bnd) : Prop := z ≤ b ∧ ∃ s, pb_O w H b 4 [.int (iZ x.1), .ref s, .int (iZ x.2.1)] ∧ Sp w H (fun q => z ≤ q) s x.2.2 ∧ (-1000 ≤ x.1 ∧ x.1 ≤ 1000) ∧ (-1000 ≤ x.2.1 ∧ x.2.1 ≤ 1000)
theorem Bd.kept {w : pb_W} {H H1 : Heap} {P : Nat → Prop} {b : Nat} {x : Bnd} (h : Bd w H P b x) (f : pb_F P H H1) : Bd w H1 P b x := by
  obtain ⟨h1, s, h2, h3, h4⟩ := h
  exact ⟨h1, s, h2.kept (f.2 _ h2.lt h1), h3.kept f, h4⟩
theorem Bd.mono {w : pb_W} {H : Heap} {P P' : Nat → Prop} {b : Nat} {x : Bnd} (h : Bd w H P b x) (hp : ∀ q, q < H.size → P q → P' q) : Bd w H P' b x := by
  obtain ⟨h1, s, h2, h3, h4⟩ := h
  exact ⟨hp _ h2.lt h1, s, h2, h3.mono hp, h4⟩
theorem BO.bd {w : pb_W} {H : Heap} {z b : Nat} {x : Bnd} (h : BO w H z b x) : Bd w H (fun q => z ≤ q ∧ q < H.size) b x := by
  obtain ⟨h1, s, h2, h3, h4⟩ := h
  exact ⟨⟨h1, h2.lt⟩, s, h2.r, h3.mono (fun q a b => ⟨b, a⟩), h4⟩
theorem BO.el {w : pb_W} {H : Heap} {z b : Nat} {x : Bnd} (h : BO w H z b x) : pb_El w H b := by
  obtain ⟨h1, s, h2, h3, h4⟩ := h
  exact ⟨4, _, _, h2.r, rfl, q2136⟩
theorem BO.ty {w : pb_W} {H : Heap} {z b : Nat} {x : Bnd} (h : BO w H z b x) : pb_Ty w H b 4 := by
  obtain ⟨h1, s, h2, h3, h4⟩ := h
  exact h2.r.ty.1
theorem BO.lt {w : pb_W} {H : Heap} {z b : Nat} {x : Bnd} (h : BO w H z b x) : b < H.size := by
  obtain ⟨h1, s, h2, h3, h4⟩ := h
  exact h2.lt
/-- a region that is read: its list t, the bands' addresses V -/
def Rg (w : pb_W) (H : Heap) (P : Nat → Prop) (a : Nat) (L : List Bnd) : Prop := ∃ (t : Nat) (V : List Nat), P a ∧ pb_R w H a 1 [.ref t] ∧ Lr w H P t V ∧ V.length = L.length ∧ ∀ j, j < L.length → Bd w H P (nV V j) (bd L j)
theorem Rg.kept {w : pb_W} {H H1 : Heap} {P : Nat → Prop} {a : Nat} {L : List Bnd} (h : Rg w H P a L) (f : pb_F P H H1) : Rg w H1 P a L := by
  obtain ⟨t, V, h1, h2, h3, h4, h5⟩ := h
  exact ⟨t, V, h1, h2.kept (f.2 _ h2.lt h1), h3.kept f, h4, fun j hj => (h5 j hj).kept f⟩
theorem Rg.mono {w : pb_W} {H : Heap} {P P' : Nat → Prop} {a : Nat} {L : List Bnd} (h : Rg w H P a L) (hp : ∀ q, q < H.size → P q → P' q) : Rg w H P' a L := by
  obtain ⟨t, V, h1, h2, h3, h4, h5⟩ := h
  exact ⟨t, V, hp _ h2.lt h1, h2, h3.mono hp, h4, fun j hj => (h5 j hj).mono hp⟩
theorem Rg.below {w : pb_W} {H : Heap} {P : Nat → Prop} {a : Nat} {L : List Bnd} (h : Rg w H P a L) : Rg w H (fun q => q < H.size) a L := h.mono fun _ h _ => h
theorem Rg.o {w : pb_W} {H : Heap} {P : Nat → Prop} {a : Nat} {L : List Bnd} (h : Rg w H P a L) : ∃ fs, pb_R w H a 1 fs := by
  obtain ⟨t, V, h1, h2, h3, h4, h5⟩ := h
  exact ⟨_, h2⟩
theorem Rg.n {w : pb_W} {H : Heap} {P : Nat → Prop} {a : Nat} {L : List Bnd} (h : Rg w H P a L) : L.length ≤ 1851 := by
  obtain ⟨t, V, h1, h2, h3, h4, h5⟩ := h
  rw [← h4]; exact h3.n
/-- a region under construction: all its cells are z and above -/
def Rb (w : pb_W) (H : Heap) (z a : Nat) (L : List Bnd) : Prop := ∃ (t e : Nat) (V : List Nat), z ≤ a ∧ pb_R w H a 1 [.ref t] ∧ Lb w H z t e V ∧ V.length = L.length ∧ (∀ j, j < L.length → BO w H z (nV V j) (bd L j)) ∧ ∀ i j, i < L.length → j < L.length → i ≠ j → nV V i ≠ nV V j
theorem Rb.rg {w : pb_W} {H : Heap} {z a : Nat} {L : List Bnd} (h : Rb w H z a L) (hn : L.length ≤ 1851) : Rg w H (fun q => z ≤ q ∧ q < H.size) a L := by
  obtain ⟨t, e, V, h1, h2, h3, h4, h5, h6⟩ := h
  exact ⟨t, V, ⟨h1, h2.lt⟩, h2, h3.r (by omega), h4, fun j hj => (h5 j hj).bd⟩
theorem BO.kf {w : pb_W} {H H1 : Heap} {z b : Nat} {x : Bnd} (h : BO w H z b x) (f : pb_F (fun q => z ≤ q ∧ (pb_Ty w H q 3 ∨ pb_Ty w H q 19 ∨ pb_Ty w H q 4)) H H1) : BO w H1 z b x := by
  obtain ⟨h1, s, h2, ⟨e, m, g, a1, a2, a3, a4, a5⟩, h4⟩ := h
  exact ⟨h1, s, h2.kept (f.2 _ h2.lt ⟨h1, Or.inr (Or.inr h2.r.ty.1)⟩), ⟨e, m, g, a1, a2, a3.kept (f.2 _ a3.lt ⟨a1, Or.inl a3.ty.1⟩), a4.kept (f.2 _ a4.lt ⟨a2, Or.inr (Or.inl a4.ty)⟩), a5⟩, h4⟩
theorem Rb.kept {w : pb_W} {H H1 : Heap} {z a : Nat} {L : List Bnd} (h : Rb w H z a L) (f : pb_F (fun q => z ≤ q) H H1) : Rb w H1 z a L := by
  obtain ⟨t, e, V, h1, h2, h3, h4, h5, h6⟩ := h
  exact ⟨t, e, V, h1, h2.kept (f.2 _ h2.lt h1), h3.kept (f.2 _ h3.2.1.lt h3.1) (fun a b => f.2 _ b a), h4, fun j hj => (h5 j hj).kf (f.mono fun q _ h => h.1), h6⟩
theorem Rb.o {w : pb_W} {H : Heap} {z a : Nat} {L : List Bnd} (h : Rb w H z a L) : ∃ fs, pb_R w H a 1 fs := by
  obtain ⟨t, e, V, h1, h2, h3, h4, h5, h6⟩ := h
  exact ⟨_, h2⟩
theorem Rb.low {w : pb_W} {H : Heap} {z a : Nat} {L : List Bnd} (h : Rb w H z a L) : z ≤ a ∧ a < H.size := by
  obtain ⟨t, e, V, h1, h2, h3, h4, h5, h6⟩ := h
  exact ⟨h1, h2.lt⟩
theorem Rb_app {w : pb_W} {H : Heap} {z a t e b : Nat} {V : List Nat} {L : List Bnd} {x : Bnd} (hza : z ≤ a) (hO : pb_R w H a 1 [.ref t]) (hL : Lb w H z t e (V ++ [b])) (hVn : V.length = L.length) (hB : ∀ j, j < L.length → BO w H z (nV V j) (bd L j)) (hd : ∀ i j, i < L.length → j < L.length → i ≠ j → nV V i ≠ nV V j) (hb : BO w H z b x) (hnb : ∀ j, j < L.length → nV V j ≠ b) : Rb w H z a (L ++ [x]) := by
  have e1 : ∀ j, j < L.length → nV (V ++ [b]) j = nV V j := fun j hj => nV_app (by omega) _
  have e2 : nV (V ++ [b]) L.length = b := by rw [← hVn]; exact nV_last _ _
  refine ⟨t, e, V ++ [b], hza, hO, hL, by rw [List.length_append, List.length_append, hVn]; rfl, fun j hj => ?_, fun i j hi hj hij => ?_⟩
  · rw [List.length_append, List.length_singleton] at hj
    by_cases h : j < L.length
    · rw [e1 j h, bd_app h]; exact hB j h
    · rw [show j = L.length by omega, e2, bd_last]; exact hb
  · rw [List.length_append, List.length_singleton] at hi hj
    by_cases h : i < L.length
    · by_cases h2 : j < L.length
      · rw [e1 i h, e1 j h2]; exact hd i j h h2 hij
      · rw [e1 i h, show j = L.length by omega, e2]; exact hnb i h
    · by_cases h2 : j < L.length
      · rw [e1 j h2, show i = L.length by omega, e2]; exact Ne.symm (hnb j h2)
      · omega
theorem Rb_set {w : pb_W} {H : Heap} {z a t e : Nat} {V : List Nat} {L : List Bnd} {x : Bnd} (hza : z ≤ a) (hO : pb_R w H a 1 [.ref t]) (hL : Lb w H z t e V) (hVn : V.length = L.length) (h0 : 0 < L.length) (hB : ∀ j, j + 1 < L.length → BO w H z (nV V j) (bd L j)) (hd : ∀ i j, i < L.length → j < L.length → i ≠ j → nV V i ≠ nV V j) (hb : BO w H z (nV V (L.length - 1)) x) : Rb w H z a (L.dropLast ++ [x]) := by
  refine ⟨t, e, V, hza, hO, hL, by rw [len_dr h0]; exact hVn, fun j hj => ?_, fun i j hi hj hij => ?_⟩
  · rw [len_dr h0] at hj
    by_cases h : j + 1 < L.length
    · rw [bd_drop h]; exact hB j h
    · rw [show j = L.length - 1 by omega, bd_set h0]; exact hb
  · rw [len_dr h0] at hi hj
    exact hd i j hi hj hij
/-- the spans of a row -/
def rowL (L : List Bnd) (y : Int) : List Int := match L.find? (fun b => decide (b.1 ≤ y ∧ y ≤ b.2.1 - 1)) with | some b => b.2.2 | none => []
def rowN (L : List Bnd) (y : Int) (k : Nat) : Prop := ∀ j, j < k → ¬ ((bd L j).1 ≤ y ∧ y ≤ (bd L j).2.1 - 1)
theorem rowL_hit {L : List Bnd} {y : Int} {k : Nat} (hk : k < L.length) (hn : rowN L y k) (h : (bd L k).1 ≤ y ∧ y ≤ (bd L k).2.1 - 1) : rowL L y = (bd L k).2.2 := by
  unfold rowL
  have e : bd L k = L[k] := by unfold bd; rw [List.getD_eq_getElem?_getD, List.getElem?_eq_getElem hk]; rfl
  have h2 : L.find? (fun b => decide (b.1 ≤ y ∧ y ≤ b.2.1 - 1)) = some L[k] := by
    rw [List.find?_eq_some_iff_getElem]
    refine ⟨by rw [← e]; exact decide_eq_true h, k, hk, rfl, fun j hj => ?_⟩
    have e2 : bd L j = L[j] := by unfold bd; rw [List.getD_eq_getElem?_getD, List.getElem?_eq_getElem (by omega)]; rfl
    rw [← e2, decide_eq_false (hn j hj)]; rfl
  rw [h2, e]
theorem rowL_none {L : List Bnd} {y : Int} (hn : rowN L y L.length) : rowL L y = [] := by
  unfold rowL
  have h2 : L.find? (fun b => decide (b.1 ≤ y ∧ y ≤ b.2.1 - 1)) = none := by
    rw [List.find?_eq_none]
    intro x hx
    obtain ⟨j, hj, rfl⟩ := List.getElem_of_mem hx
    have e2 : bd L j = L[j] := by unfold bd; rw [List.getD_eq_getElem?_getD, List.getElem?_eq_getElem hj]; rfl
    rw [decide_eq_true_eq, ← e2]
    exact hn j hj
  rw [h2]
/-- the next height at which a band begins or ends -/
def nhS (y n x : Int) : Int := if y < x ∧ (n = y ∨ x < n) then x else n
def nhF (L : List Bnd) (y : Int) : Nat → Int
  | 0 => y
  | k + 1 => nhS y (nhS y (nhF L y k) (bd L k).1) (bd L k).2.1
def nh2 (y a b : Int) : Int := if a = y ∨ b = y then max a b else min a b
def lowF (L : List Bnd) : Int := if L.length = 0 then 0 else (bd L 0).1
