set_option maxRecDepth 100000
/-! the reference's contracts, as the steps want them -/
section HLP
variable {w : pb_W} {l : Launch} {y : MethodName} {cc : ByteArray} {nL d o : Nat} {ret : Option FieldType} {as : List Value} {H2 : Heap} {S : mS}
theorem fx_ok {k : Int} (h : pb_M w l y cc nL ret d 0 0 as H2 (pb_qi (fun z H1 => z = 0 ∧ MW w H1 o (mI S 0 k) ∧ mF o H2 H1))) : pb_M w l y cc nL ret d 0 0 as H2 (pb_qi (fun z H1 => z = 0 ∧ ∃ S', SE S S' ∧ S'.2.1 0 = S.2.1 0 ∧ S'.1 0 = k ∧ MW w H1 o S' ∧ mF o H2 H1)) := by
  refine pb_M.post h ?_
  rintro v H1 ⟨z, rfl, rfl, h1, h2⟩
  exact ⟨_, rfl, rfl, _, SE.thr S k, rfl, rfl, h1, h2⟩
theorem fxT_ok {k : Int} {g : Nat → Nat} {j : Nat} (h : pb_M w l y cc nL ret d 0 0 as H2 (pb_qi (fun z H1 => z = 0 ∧ ∃ W cx cy bg ar on cn, TI g j W cx cy bg ar on cn ∧ MW w H1 o (mT (mI S 0 k) W cx cy bg ar ((on : Nat) : Int) ((cn : Nat) : Int)) ∧ mF o H2 H1))) : pb_M w l y cc nL ret d 0 0 as H2 (pb_qi (fun z H1 => z = 0 ∧ ∃ S', SE S S' ∧ S'.2.1 0 = S.2.1 0 ∧ S'.1 0 = k ∧ MW w H1 o S' ∧ mF o H2 H1)) := by
  refine pb_M.post h ?_
  rintro v H1 ⟨z, rfl, rfl, W, cx, cy, bg, ar, on, cn, -, h1, h2⟩
  exact ⟨_, rfl, rfl, mT (mI S 0 k) W cx cy bg ar on cn, ⟨rfl, rfl, rfl⟩, rfl, rfl, h1, h2⟩
theorem rd_ok {P : Int → Prop} (h : pb_M w l y cc nL ret d 0 0 as H2 (pb_qi (fun z H1 => P z ∧ MW w H1 o (mI S 0 0) ∧ mF o H2 H1))) : pb_M w l y cc nL ret d 0 0 as H2 (pb_qi (fun z H3 => ∃ S', P z ∧ SE S S' ∧ S'.2.1 0 = S.2.1 0 ∧ S'.1 0 = 0 ∧ MW w H3 o S' ∧ mF o H2 H3)) := by
  refine pb_M.post h ?_
  rintro v H1 ⟨z, rfl, hz, h1, h2⟩
  exact ⟨_, rfl, _, hz, SE.thr S 0, rfl, rfl, h1, h2⟩
theorem rdT_ok {P : Int → Prop} {g : Nat → Nat} {j : Nat} (h : pb_M w l y cc nL ret d 0 0 as H2 (pb_qi (fun z H1 => P z ∧ ∃ W cx cy bg ar on cn, TI g j W cx cy bg ar on cn ∧ MW w H1 o (mT (mI S 0 0) W cx cy bg ar ((on : Nat) : Int) ((cn : Nat) : Int)) ∧ mF o H2 H1))) : pb_M w l y cc nL ret d 0 0 as H2 (pb_qi (fun z H3 => ∃ S', P z ∧ SE S S' ∧ S'.2.1 0 = S.2.1 0 ∧ S'.1 0 = 0 ∧ MW w H3 o S' ∧ mF o H2 H3)) := by
  refine pb_M.post h ?_
  rintro v H1 ⟨z, rfl, hz, W, cx, cy, bg, ar, on, cn, -, h1, h2⟩
  exact ⟨_, rfl, mT (mI S 0 0) W cx cy bg ar on cn, hz, ⟨rfl, rfl, rfl⟩, rfl, rfl, h1, h2⟩
theorem rdP_ok {c : Bool} {f : Int → Int} {φ : Nat → Nat} {old A : Nat → Nat} (h : pb_M w l y cc nL ret d 0 0 as H2 (pb_qi (fun z H1 => ∃ (n : Nat) (P T : Nat → Nat), z = f ((n : Nat) : Int) ∧ PCr c n (mdR φ old 26) ∧ MW w H1 o (mB (mB (mB (mI S 0 0) 3 A) 2 P) 3 T) ∧ mF o H2 H1))) : pb_M w l y cc nL ret d 0 0 as H2 (pb_qi (fun z H3 => ∃ S', (∃ n : Nat, z = f ((n : Nat) : Int) ∧ PCr c n φ) ∧ SE S S' ∧ S'.2.1 0 = S.2.1 0 ∧ S'.1 0 = 0 ∧ MW w H3 o S' ∧ mF o H2 H3)) := by
  refine pb_M.post h ?_
  rintro v H1 ⟨z, rfl, n, P, T, hz, hc, h1, h2⟩
  exact ⟨_, rfl, mB (mB (mB (mI S 0 0) 3 A) 2 P) 3 T, ⟨n, hz, PCr_cong (fun y hy => mdR_at hy) hc⟩, ⟨rfl, rfl, rfl⟩, rfl, rfl, h1, h2⟩
theorem wr_ok {S' : mS} {t : Nat} {g : Nat → Nat} {v z0 : Int} (h : pb_M w l y cc nL ret d 0 0 as H2 (pb_qi (fun z H1 => z = z0 ∧ MW w H1 o S' ∧ mF o H2 H1))) (hz : mg S' t = g → z0 = v) (hse : SE S S') (hm : mg S' t = g ∧ ∀ i, i < 8 → i ≠ t → mg S' i = mg S i) (h0 : S'.1 0 = 0) : pb_M w l y cc nL ret d 0 0 as H2 (pb_qi (fun z H3 => ∃ S', z = v ∧ SE S S' ∧ (mg S' t = g ∧ ∀ i, i < 8 → i ≠ t → mg S' i = mg S i) ∧ S'.1 0 = 0 ∧ MW w H3 o S' ∧ mF o H2 H3)) := by
  refine pb_M.post h ?_
  rintro v9 H1 ⟨z, hv, hz1, h1, h2⟩
  exact ⟨z, hv, S', hz1.trans (hz hm.1), hse, hm, h0, h1, h2⟩
theorem wrP_ok {F : (Nat → Nat) → Prop} {S' : (Nat → Nat) → mS} {t : Nat} {g : Nat → Nat} {v : Int} {z0 : (Nat → Nat) → Int} (h : pb_M w l y cc nL ret d 0 0 as H2 (pb_qi (fun z H1 => ∃ P, F P ∧ z = z0 P ∧ MW w H1 o (S' P) ∧ mF o H2 H1))) (hz : ∀ P, mg (S' P) t = g → z0 P = v) (hse : ∀ P, SE S (S' P)) (hm : ∀ P, F P → mg (S' P) t = g ∧ ∀ i, i < 8 → i ≠ t → mg (S' P) i = mg S i) (h0 : ∀ P, (S' P).1 0 = 0) : pb_M w l y cc nL ret d 0 0 as H2 (pb_qi (fun z H3 => ∃ S', z = v ∧ SE S S' ∧ (mg S' t = g ∧ ∀ i, i < 8 → i ≠ t → mg S' i = mg S i) ∧ S'.1 0 = 0 ∧ MW w H3 o S' ∧ mF o H2 H3)) := by
  refine pb_M.post h ?_
  rintro v9 H1 ⟨z, hv, P, hF, hz1, h1, h2⟩
  exact ⟨z, hv, S' P, hz1.trans (hz P (hm P hF).1), hse P, hm P hF, h0 P, h1, h2⟩
end HLP
section HLQ
variable {w : pb_W} {H : Heap} {b sl o oL oD : Nat} {S : mS} {M : Nat → Prop} {e : Nat} {V : List Nat} {G : Nat → Nat → Nat} {pv : Value}
theorem LWP.k1 (hP : LWP w H b sl o oL oD S M e V G pv) {H1 : Heap} (f : pb_F (fun q => q < H.size) H H1) : pb_F (fun q => q < w.2.2.2) H H1 ∧ H1[oL]? = H[oL]? := by
  obtain ⟨h1, h2, h3, h4, h5, ⟨g6, h6⟩, -⟩ := hP
  exact ⟨f.mono fun q hq _ => hq, f.2 _ h6.lt h6.lt⟩
theorem LWP.k1D (hP : LWP w H b sl o oL oD S M e V G pv) {H1 : Heap} (f : pb_F (fun q => q < H.size) H H1) : pb_F (fun q => q < w.2.2.2) H H1 ∧ H1[oD]? = H[oD]? := by
  obtain ⟨h1, h2, h3, h4, h5, -, ⟨g6, h6⟩, -⟩ := hP
  exact ⟨f.mono fun q hq _ => hq, f.2 _ h6.lt h6.lt⟩
theorem LWP.k2 (hP : LWP w H b sl o oL oD S M e V G pv) {H1 : Heap} (f : pb_F (fun q => q < H.size ∧ q ≠ e) H H1) : pb_F (fun q => q < w.2.2.2) H H1 ∧ H1[oL]? = H[oL]? := by
  obtain ⟨h1, h2, h3, h4, h5, ⟨g6, h6⟩, h7, h8, h9, h10, h11, h12, h13, h14, h15, h16⟩ := hP
  have ha := h3.a
  exact ⟨f.mono fun q hq hz => ⟨hq, by have hz : q < w.2.2.2 := hz; omega⟩, f.2 _ h6.lt ⟨h6.lt, fun h => h16.2.1 h.symm⟩⟩
theorem LWP.new (hP : LWP w H b sl o oL oD S M e V G pv) : ∀ q, H.size ≤ q → M q := by
  obtain ⟨h1, h2, h3, h4, h5, ⟨g6, h6⟩, ⟨g7, h7⟩, h8, h9, h10, h11, h12, h13, h14, h15, h16⟩ := hP
  intro q hq
  have := h6.lt
  have := h7.lt
  exact h5.M.2 q hq ⟨by omega, by omega, by omega⟩
end HLQ
theorem rg1 (a : Nat) (h : a ≤ 768) : -2147483648 ≤ ((a : Nat) : Int) ∧ ((a : Nat) : Int) ≤ 2147483647 := by omega
theorem rg2 (a b : Nat) (ha : a ≤ 768) (hb : b ≤ 768) : -2147483648 ≤ ((a : Nat) : Int) - ((b : Nat) : Int) ∧ ((a : Nat) : Int) - ((b : Nat) : Int) ≤ 2147483647 := by omega
theorem opk_box {k : Nat} {g f : Nat → Nat} (hg : gok g) (hf : gok f) (x y : Int) (h : opk k (gc g x y) (gc f x y) = true) : (0 ≤ x ∧ x ≤ 23) ∧ 0 ≤ y ∧ y ≤ 23 := by
  rcases opk_in h with h9 | h9
  · exact gc_in hg h9
  · exact gc_in hf h9
theorem least (p : Nat → Bool) {n : Nat} (h : ∃ i, i < n ∧ p i = true) : ∃ i, i < n ∧ p i = true ∧ ∀ j, j < i → p j = false := by
  induction n with
  | zero => obtain ⟨i, hi, -⟩ := h; exact absurd hi (Nat.not_lt_zero _)
  | succ n ih =>
    by_cases c : ∃ i, i < n ∧ p i = true
    · obtain ⟨i, h1, h2, h3⟩ := ih c
      exact ⟨i, by omega, h2, h3⟩
    · obtain ⟨i, hi, hp⟩ := h
      have : i = n := Classical.byContradiction fun hne => c ⟨i, by omega, hp⟩
      subst this
      refine ⟨i, hi, hp, fun j hj => ?_⟩
      cases h9 : p j
      · rfl
      · exact absurd ⟨j, hj, h9⟩ c
theorem greatest (p : Nat → Bool) {n : Nat} (h : ∃ i, i < n ∧ p i = true) : ∃ i, i < n ∧ p i = true ∧ ∀ j, i < j → j < n → p j = false := by
  induction n with
  | zero => obtain ⟨i, hi, -⟩ := h; exact absurd hi (Nat.not_lt_zero _)
  | succ n ih =>
    cases c : p n
    · obtain ⟨i, hi, hp⟩ := h
      have hne : i ≠ n := fun hne => by rw [hne, c] at hp; cases hp
      obtain ⟨k, h1, h2, h3⟩ := ih ⟨i, by omega, hp⟩
      refine ⟨k, by omega, h2, fun j hj hn => ?_⟩
      by_cases hj2 : j = n
      · rw [hj2, c]
      · exact h3 j hj (by omega)
    · exact ⟨n, by omega, c, fun j h1 h2 => by omega⟩
theorem LWP.g {w : pb_W} {H : Heap} {b sl o oL oD : Nat} {S : mS} {M : Nat → Prop} {e : Nat} {V : List Nat} {G : Nat → Nat → Nat} {pv : Value} (hP : LWP w H b sl o oL oD S M e V G pv) : LWP w H b sl o oL oD S M e V (mg S) pv := by
  obtain ⟨h1, h2, ⟨a1, a2, a3, a4, a5⟩, h4, h5⟩ := hP
  exact ⟨h1, h2, ⟨a1, a2, a3, a4, fun i hi => by rw [← h4 i hi]; exact a5 i hi⟩, fun _ _ => rfl, h5⟩
theorem box_ex {g : Nat → Nat} (hg : gok g) (h0 : cnt g ≠ 0) : ∃ xl xr xb xt, boxP g xl xr xb xt := by
  have hrow : ∃ y, y < 24 ∧ g y ≠ 0 := by
    refine Classical.byContradiction fun h => h0 ?_
    have key : ∀ k, k ≤ 24 → sm (fun y => pop 32 (g y)) k = 0 := by
      intro k
      induction k with
      | zero => intro _; rfl
      | succ k ih =>
        intro hk
        have hz : g k = 0 := Classical.byContradiction fun h9 => h ⟨k, by omega, h9⟩
        rw [sm, ih (by omega), hz, pop_zero]
    exact key 24 (Nat.le_refl _)
  obtain ⟨y, hy, hne⟩ := hrow
  have hbit : ∃ x, x < 24 ∧ (shdw g 24).testBit x = true := by
    obtain ⟨x, hx⟩ := Nat.exists_testBit_of_ne_zero hne
    exact ⟨x, bit_lt (k := 24) (hg.1 y) hx, (shdw_bit g 24 x).mpr ⟨y, hy, hx⟩⟩
  obtain ⟨xl, a1, a2, a3⟩ := least _ hbit
  obtain ⟨xr, b1, b2, b3⟩ := greatest _ hbit
  obtain ⟨xb, c1, c2, c3⟩ := least (fun y => decide (g y ≠ 0)) ⟨y, hy, decide_eq_true hne⟩
  obtain ⟨xt, d1, d2, d3⟩ := greatest (fun y => decide (g y ≠ 0)) ⟨y, hy, decide_eq_true hne⟩
  refine ⟨xl, xr + 1, xb, xt + 1, ⟨a1, a2, a3⟩, ⟨by omega, by omega, b2, fun i h1 h2 => b3 i (by omega) h2⟩, ⟨c1, of_decide_eq_true c2, fun i hi => ?_⟩, by omega, by omega, of_decide_eq_true d2, fun i hi => ?_⟩
  · exact Classical.byContradiction fun h => absurd (decide_eq_true h) (by rw [c3 i hi]; exact Bool.false_ne_true)
  · by_cases h24 : i < 24
    · exact Classical.byContradiction fun h => absurd (decide_eq_true h) (by rw [d3 i (by omega) h24]; exact Bool.false_ne_true)
    · exact hg.2 i (by omega)
