set_option maxRecDepth 100000
/-! one operation, in general: a read, a write -/
noncomputable def grd (S : Int → Int → Bool) : Nat → Nat := fun y => if y < 24 then msk (fun x => S ((x : Nat) : Int) ((y : Nat) : Int)) 24 else 0
theorem grd_ok (S : Int → Int → Bool) : gok (grd S) := by
  refine ⟨fun y => ?_, fun y hy => by unfold grd; rw [if_neg (by omega)]⟩
  unfold grd
  split
  · exact msk_lt24 _
  · decide
theorem grd_gc {S : Int → Int → Bool} (hS : ∀ x y, S x y = true → (0 ≤ x ∧ x ≤ 23) ∧ 0 ≤ y ∧ y ≤ 23) (x y : Int) : gc (grd S) x y = S x y := by
  refine gc_pt (grd_ok S) hS (fun i j hi hj => ?_) x y
  unfold grd
  rw [if_pos hj, msk_bit, decide_eq_true hi, Bool.true_and]
theorem grd_eq {S : Int → Int → Bool} {h : Nat → Nat} (h1 : ∀ j, j < 24 → h j < 16777216) (h0 : ∀ j, 24 ≤ j → h j = 0) (e : ∀ i j : Nat, i < 24 → j < 24 → (h j).testBit i = S ((i : Nat) : Int) ((j : Nat) : Int)) : h = grd S := by
  funext j
  unfold grd
  by_cases hj : j < 24
  · rw [if_pos hj]
    refine Nat.eq_of_testBit_eq fun i => ?_
    rw [msk_bit]
    by_cases hi : i < 24
    · rw [decide_eq_true hi, Bool.true_and]; exact e i j hi hj
    · rw [decide_eq_false hi, Bool.false_and]
      exact Nat.testBit_lt_two_pow (Nat.lt_of_lt_of_le (h1 j hj) (Nat.le_trans (by decide : 16777216 ≤ 2 ^ 24) (Nat.pow_le_pow_right (by decide) (by omega))))
  · rw [if_neg hj]; exact h0 j (by omega)
/-- the sheet t after new rows -/
theorem mg_new {S S' S1 : mS} {t lo hi : Nat} {φ : Nat → Nat} {T : Int → Int → Bool} (hS1 : S1.2.1 0 = S.2.1 0) (hb : mok S) (ht : t < 8) (h : hi ≤ 24) (hS : S'.2.1 0 = rowsF S1 t lo hi φ) (hφ : ∀ j, j < 24 → φ j < 16777216) (e : ∀ i j : Nat, i < 24 → j < 24 → (if lo ≤ j ∧ j < hi then φ j else mg S t j).testBit i = T ((i : Nat) : Int) ((j : Nat) : Int)) :
    mg S' t = grd T ∧ ∀ i, i < 8 → i ≠ t → mg S' i = mg S i := by
  have hm : ∀ i, mg S1 i = mg S i := fun i => by funext y; unfold mg; rw [hS1]
  refine ⟨?_, fun i _ hn => (mg_rowsF_ne S1 S' φ h hS hn).trans (hm i)⟩
  rw [mg_rowsF S1 S' φ h hS, hm]
  refine grd_eq (fun j hj => ?_) (fun j hj => ?_) e
  · try dsimp only
    split
    · exact hφ j hj
    · exact (mg_ok hb ht).1 j
  · try dsimp only
    rw [if_neg (by omega)]
    exact (mg_ok hb ht).2 j hj
theorem mg_at {S : mS} {s y : Nat} (h : y < 24) : S.2.1 0 (24 * s + y) = mg S s y := by unfold mg; rw [if_pos h]
theorem mok_of {S : mS} (h : ∀ i, i < 8 → gok (mg S i)) : mok S := by
  intro j hj
  have h1 := (h (j / 24) (by omega)).1 (j % 24)
  unfold mg at h1
  rw [if_pos (Nat.mod_lt _ (by decide)), show 24 * (j / 24) + j % 24 = j from Nat.div_add_mod j 24] at h1
  exact h1
section STP
variable {w : pb_W} {l : Launch} {yW : MethodName} {cW : ByteArray} {nW : Nat} {tt : List (Nat × Nat × Nat × Nat)} {yX : MethodName} {cX : ByteArray} {nX : Nat} {rX : FieldType} {asW asX : List Value} {H : Heap} {b sl o oL oD mc ms d' : Nat} {S : mS} {M : Nat → Prop} {e : Nat} {V : List Nat} {G : Nat → Nat → Nat} {pv : Value}
/-- the heap between: the wrapper has written its array -/
theorem LWP.mid (hP : LWP w H b sl o oL oD S M e V G pv) {H1 H2 : Heap} {g9 : Nat → Value} {v : Value} {Q : Nat → Prop} (hQ : ∀ q, q < H.size → Q q ∨ q = e) (f1 : pb_F Q H H1) (hA : pb_A w H2 oL 2 1 (updV g9 0 v)) (u : pb_Up oL H1 H2) : pb_F (fun q => q < w.2.2.2) H H2 ∧ MW w H2 o S := by
  obtain ⟨h1, h2, h3, h4, h5, h6, h7, h8, h9, h10, h11, h12, h13, h14, h15, h16⟩ := hP
  have ha := h3.a
  refine ⟨⟨by rw [u.1]; exact f1.1, fun q hq hz => ?_⟩, h1.keptF fun q a1 a2 => ?_⟩
  · have hz : q < w.2.2.2 := hz
    rw [u.2 q (by omega)]
    exact f1.2 q hq ((hQ q hq).resolve_right (by omega))
  · rw [u.2 q (by omega)]
    refine f1.2 q (by omega) ((hQ q (by omega)).resolve_right ?_)
    intro h
    rw [← h] at h16
    have := h16.1
    omega
theorem LWP.lD (hP : LWP w H b sl o oL oD S M e V G pv) {H1 H2 H3 : Heap} {Q : Nat → Prop} (hQ : ∀ q, q < H.size → Q q ∨ q = e) (f1 : pb_F Q H H1) (u : pb_Up oL H1 H2) (m : mF o H2 H3) : ∃ g, pb_A w H3 oD 3 1 g := by
  obtain ⟨h1, h2, h3, h4, h5, h6, ⟨g7, h7⟩, h8, h9, h10, h11, h12, h13, h14, h15, h16⟩ := hP
  refine ⟨g7, h7.kept ?_⟩
  rw [m.2 oD h11, u.2 oD (fun h => h12 h.symm)]
  exact f1.2 oD h7.lt ((hQ oD h7.lt).resolve_right fun h => h16.2.2 h.symm)
theorem StepI_r (hP : LWP w H b sl o oL oD S M e V G pv) {P1 P3 : Int → Prop} (hmc : mc ≤ 49000) (hms : ms ≤ 228000) (hd : d' ≤ 15) (hv : ∀ z z', P1 z → P3 z' → z = z' ∧ (-2147483648 ≤ z ∧ z ≤ 2147483647) ∧ (rX = .boolean → 0 ≤ z ∧ z ≤ 1))
    (hW : pb_MW w l yW cW nW (some .int) tt 15 mc ms asW H (pb_qi (fun k H2 => k = 0 ∧ ∃ z H1 g9, (P1 z ∧ pb_F (fun q => q < H.size) H H1) ∧ pb_A w H2 oL 2 1 (updV g9 0 (.long (lZ z))) ∧ pb_Up oL H1 H2)))
    (hX : ∀ H2, MW w H2 o S → pb_M w l yX cX nX (some rX) d' 0 0 asX H2 (pb_qi (fun z H3 => ∃ S', P3 z ∧ SE S S' ∧ S'.2.1 0 = S.2.1 0 ∧ S'.1 0 = 0 ∧ MW w H3 o S' ∧ mF o H2 H3))) :
    StepI w l yW cW nW tt yX cX nX rX asW asX H b sl o oL oD := by
  have hI : LWI w H b sl o oL oD S := ⟨M, e, V, G, pv, hP⟩
  have hs := hI.st
  refine ⟨mc, ms, d', _, fun _ H2 z H3 => ∃ S', P3 z ∧ SE S S' ∧ S'.2.1 0 = S.2.1 0 ∧ S'.1 0 = 0 ∧ MW w H3 o S' ∧ mF o H2 H3, hmc, hms, hd, hW, ?_, ?_⟩
  · rintro k H2 ⟨rfl, z, H1, g9, ⟨hz, f1⟩, hA, u⟩
    obtain ⟨m1, m2⟩ := hP.mid (fun q hq => Or.inl hq) f1 hA u
    exact ⟨m1, by decide, m2.o, hX H2 m2⟩
  · rintro k H2 z H3 ⟨rfl, z1, H1, g9, ⟨hz, f1⟩, hA, u⟩ ⟨S', hz3, e1, e2, e3, e4, e5⟩
    obtain ⟨rfl, hr, hb⟩ := hv _ _ hz hz3
    have hA3 : pb_A w H3 oL 2 1 (updV g9 0 (.long (lZ z1))) := hA.kept (e5.2 _ hs.2.2.2.2.1)
    refine ⟨e5.z hs.1.1, S', e4, e3, fun _ => ⟨hr, g9, hA3⟩, fun _ h => hb h, hI.move ⟨?_, fun q hq hm => ?_⟩ e4 e1 e2 ⟨_, hA3⟩ (hP.lD (fun q hq => Or.inl hq) f1 u e5)⟩
    · rw [e5.1, u.1]; exact f1.1
    · rw [e5.2 q hm.2.1, u.2 q hm.2.2.1]
      exact f1.2 q hq hm.1
theorem StepI_w (hP : LWP w H b sl o oL oD S M e V G pv) {t : Nat} (ht : t < 8) {g : Nat → Nat} (hg : gok g) {v : Int} (hmc : mc ≤ 49000) (hms : ms ≤ 228000) (hd : d' ≤ 15) (hv : -2147483648 ≤ v ∧ v ≤ 2147483647) (hrX : rX ≠ .boolean)
    (hW : pb_MW w l yW cW nW (some .int) tt 15 mc ms asW H (pb_qi (fun k H2 => k = 0 ∧ ∃ z H1 g9, (z = v ∧ (∃ r, BP w H1 M b sl e pv (V.set t r) (gup G t g)) ∧ pb_F (fun q => q < H.size ∧ q ≠ e) H H1) ∧ pb_A w H2 oL 2 1 (updV g9 0 (.long (lZ z))) ∧ pb_Up oL H1 H2)))
    (hX : ∀ H2, MW w H2 o S → pb_M w l yX cX nX (some rX) d' 0 0 asX H2 (pb_qi (fun z H3 => ∃ S', z = v ∧ SE S S' ∧ (mg S' t = g ∧ ∀ i, i < 8 → i ≠ t → mg S' i = mg S i) ∧ S'.1 0 = 0 ∧ MW w H3 o S' ∧ mF o H2 H3))) :
    StepI w l yW cW nW tt yX cX nX rX asW asX H b sl o oL oD := by
  have hI : LWI w H b sl o oL oD S := ⟨M, e, V, G, pv, hP⟩
  have hs := hI.st
  have hQ : ∀ q, q < H.size → (q < H.size ∧ q ≠ e) ∨ q = e := fun q hq => by by_cases h : q = e; exact Or.inr h; exact Or.inl ⟨hq, h⟩
  refine ⟨mc, ms, d', _, fun _ H2 z H3 => ∃ S', z = v ∧ SE S S' ∧ (mg S' t = g ∧ ∀ i, i < 8 → i ≠ t → mg S' i = mg S i) ∧ S'.1 0 = 0 ∧ MW w H3 o S' ∧ mF o H2 H3, hmc, hms, hd, hW, ?_, ?_⟩
  · rintro k H2 ⟨rfl, z, H1, g9, ⟨hz, -, f1⟩, hA, u⟩
    obtain ⟨m1, m2⟩ := hP.mid hQ f1 hA u
    exact ⟨m1, by decide, m2.o, hX H2 m2⟩
  · rintro k H2 z H3 ⟨rfl, z1, H1, g9, ⟨hz, ⟨r, hB⟩, f1⟩, hA, u⟩ ⟨S', hz3, e1, ⟨e2, e2'⟩, e3, e4, e5⟩
    have hA3 : pb_A w H3 oL 2 1 (updV g9 0 (.long (lZ z1))) := hA.kept (e5.2 _ hs.2.2.2.2.1)
    have hD3 := hP.lD hQ f1 u e5
    obtain ⟨h1, h2, h3, h4, h5, h6, h7, h8, h9, h10, h11, h12, h13, h14, h15, h16⟩ := hP
    have hmm : ∀ i, i < 8 → gup G t g i = mg S' i := fun i hi => by
      unfold gup
      by_cases c : i = t
      · rw [if_pos c, c, e2]
      · rw [if_neg c, e2' i hi c, h4 i hi]
    have f13 : pb_F (fun q => lM o oL oD q) H1 H3 := ⟨by rw [e5.1, u.1]; exact Nat.le_refl _, fun q _ hm => by rw [e5.2 q hm.1, u.2 q hm.2.1]⟩
    have hz9 : z = z1 := hz3.trans hz.symm
    rw [hz9]
    refine ⟨e5.z hs.1.1, S', e4, e3, fun _ => ⟨by rw [hz]; exact hv, g9, hA3⟩, fun _ h => absurd h hrX, M, e, V.set t r, gup G t g, pv, e4, ?_, ?_, hmm, ?_, ⟨_, hA3⟩, hD3, h8, h9, h10, h11, h12, ?_, h14, h15, h16⟩
    · refine mok_of fun i hi => ?_
      rw [← hmm i hi]
      unfold gup
      split
      · exact hg
      · rw [h4 i hi]; exact mg_ok h2 hi
    · exact hB.frm f13 h14 h15 h16 fun q _ hm => h5.M.1 q hm
    · refine (h5.kept ⟨?_, fun q hq hm => ?_⟩).se e1
      · rw [e5.1, u.1]; exact f1.1
      · rw [f13.2 q (Nat.lt_of_lt_of_le hq f1.1) hm.2.1]
        exact f1.2 q hq ⟨hm.1, hm.2.2⟩
    · rw [e5.1, u.1]; exact Nat.le_trans h13 f1.1
end STP
