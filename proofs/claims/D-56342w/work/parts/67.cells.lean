set_option maxRecDepth 100000
/-! cells: rows of bits -/
def Cq (w : pb_W) (H : Heap) (P : Nat → Prop) (c : Nat) (g : Nat → Nat) : Prop := ∃ r, P c ∧ P r ∧ pb_R w H c 11 [.ref r] ∧ pb_B w H r 0 24 (pb_nf g) ∧ gok g
def Cb (w : pb_W) (H : Heap) (z c r : Nat) (g : Nat → Nat) : Prop := z ≤ c ∧ z ≤ r ∧ pb_O w H c 11 [.ref r] ∧ pb_A w H r 0 24 (pb_nf g) ∧ gok g
theorem Cq.kept {w : pb_W} {H H1 : Heap} {P : Nat → Prop} {c : Nat} {g : Nat → Nat} (h : Cq w H P c g) (f : pb_F P H H1) : Cq w H1 P c g := by
  obtain ⟨r, h1, h2, h3, h4, h5⟩ := h
  exact ⟨r, h1, h2, h3.kept (f.2 _ h3.lt h1), h4.kept (f.2 _ h4.lt h2), h5⟩
theorem Cq.mono {w : pb_W} {H : Heap} {P P' : Nat → Prop} {c : Nat} {g : Nat → Nat} (h : Cq w H P c g) (hp : ∀ q, q < H.size → P q → P' q) : Cq w H P' c g := by
  obtain ⟨r, h1, h2, h3, h4, h5⟩ := h
  exact ⟨r, hp _ h3.lt h1, hp _ h4.lt h2, h3, h4, h5⟩
theorem Cb.q {w : pb_W} {H : Heap} {z c r : Nat} {g : Nat → Nat} (h : Cb w H z c r g) : Cq w H (fun q => q = c ∨ q = r) c g := ⟨r, Or.inl rfl, Or.inr rfl, h.2.2.1.r, h.2.2.2.1.b, h.2.2.2.2⟩
theorem Cb.kept {w : pb_W} {H H1 : Heap} {z c r : Nat} {g : Nat → Nat} (h : Cb w H z c r g) (f : pb_F (fun q => z ≤ q) H H1) : Cb w H1 z c r g :=
  ⟨h.1, h.2.1, h.2.2.1.kept (f.2 _ h.2.2.1.lt h.1), h.2.2.2.1.kept (f.2 _ h.2.2.2.1.lt h.2.1), h.2.2.2.2⟩
theorem Cb.kq {w : pb_W} {H H1 : Heap} {z c r : Nat} {g : Nat → Nat} {Q : Nat → Prop} (h : Cb w H z c r g) (f : pb_F Q H H1) (hc : Q c) (hr : Q r) : Cb w H1 z c r g :=
  ⟨h.1, h.2.1, h.2.2.1.kept (f.2 _ h.2.2.1.lt hc), h.2.2.2.1.kept (f.2 _ h.2.2.2.1.lt hr), h.2.2.2.2⟩
theorem Cq.o {w : pb_W} {H : Heap} {P : Nat → Prop} {c : Nat} {g : Nat → Nat} (h : Cq w H P c g) : ∃ fs, pb_R w H c 11 fs := by
  obtain ⟨r, h1, h2, h3, h4⟩ := h
  exact ⟨_, h3⟩
theorem gok_up {g : Nat → Nat} (h : gok g) {y v : Nat} (hy : y < 24) (hv : v < 16777216) : gok (va_up g y v) := by
  refine ⟨fun i => ?_, fun i hi => ?_⟩
  · unfold va_up; split
    · exact hv
    · exact h.1 i
  · unfold va_up; rw [if_neg (by omega)]; exact h.2 i hi
theorem gok_0 : gok (fun _ => 0) := ⟨fun _ => (by decide : 0 < 16777216), fun _ _ => rfl⟩
/-- a row of a region -/
def ofE (E : List Int) : Nat → Nat
  | 0 => 0
  | k + 1 => ofE E k ||| rngm (eE E (2 * k)).toNat (eE E (2 * k + 1)).toNat
theorem ofE_lt {E : List Int} (h : ∀ i, 0 ≤ eE E i ∧ eE E i ≤ 24) (k : Nat) : ofE E k < 16777216 := by
  induction k with
  | zero => exact (by decide : 0 < 16777216)
  | succ k ih => rw [ofE]; exact or_lt24 ih (rngm_lt (by have := h (2 * k + 1); omega))
def ofG (L : List Bnd) (n : Nat) : Nat → Nat := fun y => if y < n then ofE (rowL L ((y : Nat) : Int)) ((rowL L ((y : Nat) : Int)).length / 2) else 0
def gcI (g : Nat → Nat) (x y : Int) : Bool := (decide (0 ≤ x ∧ x ≤ 23) && decide (0 ≤ y ∧ y ≤ 23)) && (g y.toNat).testBit x.toNat
def grI (g : Nat → Nat) (y : Int) : Nat := if 0 ≤ y ∧ y ≤ 23 then g y.toNat else 0
theorem grI_lt {g : Nat → Nat} (h : gok g) (y : Int) : grI g y < 16777216 := by
  unfold grI; split
  · exact h.1 _
  · decide
def arB (g : Nat → Nat) : Nat → Nat := fun k => sm (fun i => bcN (g i)) k
def peB (g : Nat → Nat) : Nat → Nat := fun k => sm (fun i => bcN (grI g ((i : Nat) : Int) ^^^ grI g (((i : Nat) : Int) - 1)) + bcN (grI g ((i : Nat) : Int) ^^^ (grI g ((i : Nat) : Int) <<< 1))) k
def otG (g : Nat → Nat) (n : Nat) : Nat → Nat := fun y => if y < n then pb_dif 16777215 (g y) else 0
def rmG (g o : Nat → Nat) (n : Nat) : Nat → Nat := fun y => if y < n then pb_dif (g y) (o y) else g y
def besG (g : Nat → Nat) (y : Nat) : Nat := (if 0 < y then g (y - 1) else 0) ||| (if y < 23 then g (y + 1) else 0)
def spv (co : Bool) (own bes : Nat) : Nat := (((own ||| own <<< 1) ||| own >>> 1) ||| bes) ||| (if co = true then bes <<< 1 ||| bes >>> 1 else 0)
def spC (g wi : Nat → Nat) (co : Bool) (y : Nat) : Nat := (spv co (g y) (besG g y) &&& wi y) ||| g y
def spN (g wi : Nat → Nat) (co : Bool) (n : Nat) : Nat → Nat := fun y => if y < n then spC g wi co y else g y
def spB (g wi : Nat → Nat) (co : Bool) : Nat → Bool
  | 0 => false
  | n + 1 => spB g wi co n || decide (spC g wi co n ≠ g n)
theorem up_fn {φ : Nat → Nat} {n v : Nat} (d : Nat → Nat) (hv : φ n = v) : va_up (fun y => if y < n then φ y else d y) n v = fun y => if y < n + 1 then φ y else d y := by
  funext y
  unfold va_up
  by_cases h : y = n
  · subst h; rw [if_pos rfl, if_pos (by omega), hv]
  · rw [if_neg h]
    dsimp only
    by_cases h2 : y < n
    · rw [if_pos h2, if_pos (by omega)]
    · rw [if_neg h2, if_neg (by omega)]
theorem spC_lt {g wi : Nat → Nat} (hg : gok g) (hw : gok wi) (co : Bool) (y : Nat) : spC g wi co y < 16777216 :=
  or_lt24 (Nat.lt_of_le_of_lt Nat.and_le_right (hw.1 y)) (hg.1 y)
theorem gok_sp {g wi : Nat → Nat} (hg : gok g) (hw : gok wi) (co : Bool) {n : Nat} (hn : n ≤ 24) : gok (spN g wi co n) := by
  refine ⟨fun i => ?_, fun i hi => ?_⟩
  · unfold spN; split
    · exact spC_lt hg hw co i
    · exact hg.1 i
  · unfold spN; rw [if_neg (by omega)]; exact hg.2 i hi
theorem gok_rm {g o : Nat → Nat} (hg : gok g) {n : Nat} (hn : n ≤ 24) : gok (rmG g o n) := by
  refine ⟨fun i => ?_, fun i hi => ?_⟩
  · unfold rmG; split
    · exact dif_lt24 (hg.1 i)
    · exact hg.1 i
  · unfold rmG; rw [if_neg (by omega)]; exact hg.2 i hi
theorem gok_ot {g : Nat → Nat} {n : Nat} (hn : n ≤ 24) : gok (otG g n) := by
  refine ⟨fun i => ?_, fun i hi => ?_⟩
  · unfold otG; split
    · exact dif_lt24 (by decide)
    · decide
  · unfold otG; rw [if_neg (by omega)]
theorem gok_of {L : List Bnd} (h : ∀ y i, 0 ≤ eE (rowL L y) i ∧ eE (rowL L y) i ≤ 24) {n : Nat} (hn : n ≤ 24) : gok (ofG L n) := by
  refine ⟨fun i => ?_, fun i hi => ?_⟩
  · unfold ofG; split
    · exact ofE_lt (h _) _
    · decide
  · unfold ofG; rw [if_neg (by omega)]
theorem lt25 {a b : Nat} (ha : a < 33554432) (hb : b < 33554432) : a ||| b < 33554432 := Nat.or_lt_two_pow (n := 25) ha hb
theorem xlt25 {a b : Nat} (ha : a < 33554432) (hb : b < 33554432) : a ^^^ b < 33554432 := Nat.xor_lt_two_pow (n := 25) ha hb
theorem shl25 {a : Nat} (ha : a < 16777216) : a <<< 1 < 33554432 := by rw [Nat.shiftLeft_eq]; omega
theorem vup_self (f : Nat → Nat) (k : Nat) {v : Nat} (h : f k = v) : va_up f k v = f := by
  funext j; unfold va_up; split
  · rename_i e; rw [e, h]
  · rfl
theorem va_up2 (f : Nat → Nat) (k u v : Nat) : va_up (va_up f k u) k v = va_up f k v := by
  funext j; unfold va_up; split <;> rfl
theorem va_up_at (f : Nat → Nat) (k v : Nat) : va_up f k v k = v := if_pos rfl
theorem ofG_step (L : List Bnd) (n : Nat) : va_up (ofG L n) n (ofE (rowL L ((n : Nat) : Int)) ((rowL L ((n : Nat) : Int)).length / 2)) = ofG L (n + 1) := up_fn (φ := fun y => ofE (rowL L ((y : Nat) : Int)) ((rowL L ((y : Nat) : Int)).length / 2)) (fun _ => 0) rfl
theorem Cb.ok {w : pb_W} {H : Heap} {z c r : Nat} {g : Nat → Nat} (h : Cb w H z c r g) : gok g := h.2.2.2.2
theorem besG_lt {g : Nat → Nat} (h : gok g) (y : Nat) : besG g y < 16777216 := by
  unfold besG
  apply or_lt24
  · split
    · exact h.1 _
    · decide
  · split
    · exact h.1 _
    · decide
def rimG (g : Nat → Nat) : Nat → Bool
  | 0 => decide (g 0 ≠ 0) || decide (g 23 ≠ 0)
  | k + 1 => rimG g k || (decide (g k &&& 1 ≠ 0) || decide (g k >>> 23 ≠ 0))
def moR (g : Nat → Nat) (y : Nat) : Nat → Int
  | 0 => 0
  | x + 1 => moR g y x + (if gcI g ((x : Nat) : Int) ((y : Nat) : Int) = true then ((x * x + y * y : Nat) : Int) else 0)
def moG (g : Nat → Nat) : Nat → Int
  | 0 => 0
  | y + 1 => moG g y + moR g y 24
def toE (g : Nat → Nat) (y : Nat) : Nat → List Int
  | 0 => []
  | x + 1 => spadd (toE g y x) ((x : Nat) : Int) (if gcI g ((x : Nat) : Int) ((y : Nat) : Int) = true then ((x + 1 : Nat) : Int) else ((x : Nat) : Int))
def toF (g : Nat → Nat) : Nat → List Bnd
  | 0 => []
  | y + 1 => radd (toF g y) ((y : Nat) : Int) ((y + 1 : Nat) : Int) (toE g y 24)
theorem toE_len (g : Nat → Nat) (y k : Nat) : (toE g y k).length ≤ 2 * k := by
  induction k with
  | zero => exact Nat.le_refl _
  | succ k ih => rw [toE]; exact Nat.le_trans (spadd_le _ _ _) (by omega)
theorem toF_len (g : Nat → Nat) (k : Nat) : (toF g k).length ≤ k := by
  induction k with
  | zero => exact Nat.le_refl _
  | succ k ih => rw [toF]; exact radd_n ih
