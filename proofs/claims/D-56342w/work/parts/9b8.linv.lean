set_option maxRecDepth 100000
/-! the law's invariant: the board and the reference stand for the same thing -/
def lM (o oL oD : Nat) (q : Nat) : Prop := (q < o ∨ o + 13 ≤ q) ∧ q ≠ oL ∧ q ≠ oD
/-- the two paths -/
def PT (w : pb_W) (H : Heap) (o oL oD e : Nat) (pv : Value) (S : mS) (M : Nat → Prop) : Prop :=
  (pv = .null ∧ S.1 1 = 0 ∧ ∀ q, M q ↔ lM o oL oD q) ∨
  ∃ (c xs ys n : Nat) (X Y : Nat → Int), pv = .ref c ∧ Po w H c xs ys X Y n ∧ (1 ≤ n ∧ n ≤ 40) ∧ S.1 1 = ((n : Nat) : Int) ∧ (∀ i, i < n → X i = S.2.2 0 i ∧ Y i = S.2.2 1 i) ∧ (∀ i, i < n → (0 ≤ X i ∧ X i ≤ 24) ∧ 0 ≤ Y i ∧ Y i ≤ 24) ∧ lnP X Y n ∧ (w.2.2.2 ≤ c ∧ w.2.2.2 ≤ xs ∧ w.2.2.2 ≤ ys) ∧ (lM o oL oD c ∧ lM o oL oD xs ∧ lM o oL oD ys) ∧ (c ≠ e ∧ xs ≠ e ∧ ys ≠ e) ∧ ∀ q, M q ↔ q ≠ c ∧ q ≠ xs ∧ q ≠ ys ∧ lM o oL oD q
/-- what the reference's state says to the law -/
def SE (S S' : mS) : Prop := S'.1 1 = S.1 1 ∧ S'.2.2 0 = S.2.2 0 ∧ S'.2.2 1 = S.2.2 1
theorem PT.se {w : pb_W} {H : Heap} {o oL oD e9 : Nat} {pv : Value} {S S' : mS} {M : Nat → Prop} (h : PT w H o oL oD e9 pv S M) (e : SE S S') : PT w H o oL oD e9 pv S' M := by
  obtain ⟨e1, e2, e3⟩ := e
  unfold PT at h ⊢
  rw [e1, e2, e3]
  exact h
theorem PT.kept {w : pb_W} {H H1 : Heap} {o oL oD e : Nat} {pv : Value} {S : mS} {M : Nat → Prop} (h : PT w H o oL oD e pv S M) (f : pb_F (fun q => q < H.size ∧ lM o oL oD q ∧ q ≠ e) H H1) : PT w H1 o oL oD e pv S M := by
  rcases h with h | ⟨c, xs, ys, n, X, Y, h1, h2, h3, h4, h5, h6, h7, h8, h9, h11, h10⟩
  · exact Or.inl h
  · exact Or.inr ⟨c, xs, ys, n, X, Y, h1, h2.kept f ⟨h2.1.lt, h9.1, h11.1⟩ ⟨h2.2.1.lt, h9.2.1, h11.2.1⟩ ⟨h2.2.2.1.lt, h9.2.2, h11.2.2⟩, h3, h4, h5, h6, h7, h8, h9, h11, h10⟩
theorem PT.M {w : pb_W} {H : Heap} {o oL oD e : Nat} {pv : Value} {S : mS} {M : Nat → Prop} (h : PT w H o oL oD e pv S M) : (∀ q, M q → lM o oL oD q) ∧ ∀ q, H.size ≤ q → lM o oL oD q → M q := by
  rcases h with ⟨-, -, h⟩ | ⟨c, xs, ys, n, X, Y, h1, h2, -, -, -, -, -, -, -, -, h10⟩
  · exact ⟨fun q hq => (h q).mp hq, fun q _ hq => (h q).mpr hq⟩
  · refine ⟨fun q hq => ((h10 q).mp hq).2.2.2, fun q hs hq => (h10 q).mpr ⟨?_, ?_, ?_, hq⟩⟩
    · have := h2.1.lt; omega
    · have := h2.2.1.lt; omega
    · have := h2.2.2.1.lt; omega
def LWP (w : pb_W) (H : Heap) (b sl o oL oD : Nat) (S : mS) (M : Nat → Prop) (e : Nat) (V : List Nat) (G : Nat → Nat → Nat) (pv : Value) : Prop :=
  MW w H o S ∧ mok S ∧ BP w H M b sl e pv V G ∧ (∀ i, i < 8 → G i = mg S i) ∧ PT w H o oL oD e pv S M ∧
    (∃ g, pb_A w H oL 2 1 g) ∧ (∃ g, pb_A w H oD 3 1 g) ∧ w.2.2.2 ≤ oL ∧ w.2.2.2 ≤ oD ∧ (oL < o ∨ o + 13 ≤ oL) ∧ (oD < o ∨ o + 13 ≤ oD) ∧ oL ≠ oD ∧ o + 13 ≤ H.size ∧ lM o oL oD b ∧ lM o oL oD sl ∧ lM o oL oD e
def LWI (w : pb_W) (H : Heap) (b sl o oL oD : Nat) (S : mS) : Prop :=
  ∃ (M : Nat → Prop) (e : Nat) (V : List Nat) (G : Nat → Nat → Nat) (pv : Value), LWP w H b sl o oL oD S M e V G pv
/-- one operation: what the component's wrapper says, what the reference says, and that they agree -/
def StepI (w : pb_W) (l : Launch) (yW : MethodName) (cW : ByteArray) (nW : Nat) (tt : List (Nat × Nat × Nat × Nat)) (yX : MethodName) (cX : ByteArray) (nX : Nat) (rX : FieldType) (asW asX : List Value) (H : Heap) (b sl o oL oD : Nat) : Prop :=
  ∃ (mc ms d' : Nat) (postW : Int → Heap → Prop) (postX : Int → Heap → Int → Heap → Prop), mc ≤ 49000 ∧ ms ≤ 228000 ∧ d' ≤ 15 ∧
    pb_MW w l yW cW nW (some .int) tt 15 mc ms asW H (pb_qi postW) ∧
    (∀ k H2, postW k H2 → pb_F (fun q => q < w.2.2.2) H H2 ∧ (0 ≤ k ∧ k ≤ 3) ∧ (∃ fs, pb_R w H2 o 2 fs) ∧ pb_M w l yX cX nX (some rX) d' 0 0 asX H2 (pb_qi (postX k H2))) ∧
    ∀ k H2 z H3, postW k H2 → postX k H2 z H3 → pb_F (fun q => q < w.2.2.2) H2 H3 ∧ ∃ S', MW w H3 o S' ∧ S'.1 0 = k ∧ (k = 0 → (-2147483648 ≤ z ∧ z ≤ 2147483647) ∧ ∃ g, pb_A w H3 oL 2 1 (updV g 0 (.long (lZ z)))) ∧ (k = 0 → rX = .boolean → 0 ≤ z ∧ z ≤ 1) ∧ LWI w H3 b sl o oL oD S'
/-- the same with long answers, double answers (the value that the array holds, out of the reference's answer) -/
def StepL (w : pb_W) (l : Launch) (yW : MethodName) (cW : ByteArray) (nW : Nat) (tt : List (Nat × Nat × Nat × Nat)) (yX : MethodName) (cX : ByteArray) (nX : Nat) (asW asX : List Value) (H : Heap) (b sl o oL oD : Nat) : Prop :=
  ∃ (mc ms d' : Nat) (postW : Int → Heap → Prop) (postX : Int → Heap → Int → Heap → Prop), mc ≤ 49000 ∧ ms ≤ 228000 ∧ d' ≤ 15 ∧
    pb_MW w l yW cW nW (some .int) tt 15 mc ms asW H (pb_qi postW) ∧
    (∀ k H2, postW k H2 → pb_F (fun q => q < w.2.2.2) H H2 ∧ (0 ≤ k ∧ k ≤ 3) ∧ (∃ fs, pb_R w H2 o 2 fs) ∧ pb_M w l yX cX nX (some .long) d' 0 0 asX H2 (pb_ql (postX k H2))) ∧
    ∀ k H2 z H3, postW k H2 → postX k H2 z H3 → pb_F (fun q => q < w.2.2.2) H2 H3 ∧ ∃ S', MW w H3 o S' ∧ S'.1 0 = k ∧ (k = 0 → ∃ g, pb_A w H3 oL 2 1 (updV g 0 (.long (lZ z)))) ∧ LWI w H3 b sl o oL oD S'
def StepD (w : pb_W) (l : Launch) (yW : MethodName) (cW : ByteArray) (nW : Nat) (tt : List (Nat × Nat × Nat × Nat)) (yX : MethodName) (cX : ByteArray) (nX : Nat) (rX : FieldType) (dv : Value → UInt64 → Prop) (asW asX : List Value) (H : Heap) (b sl o oL oD : Nat) : Prop :=
  ∃ (mc ms d' : Nat) (postW : Int → Heap → Prop) (postX : Int → Heap → Value → Heap → Prop), mc ≤ 49000 ∧ ms ≤ 228000 ∧ d' ≤ 15 ∧
    pb_MW w l yW cW nW (some .int) tt 15 mc ms asW H (pb_qi postW) ∧
    (∀ k H2, postW k H2 → pb_F (fun q => q < w.2.2.2) H H2 ∧ (0 ≤ k ∧ k ≤ 3) ∧ (∃ fs, pb_R w H2 o 2 fs) ∧ pb_M w l yX cX nX (some rX) d' 0 0 asX H2 (pb_qq (postX k H2))) ∧
    ∀ k H2 z H3, postW k H2 → postX k H2 z H3 → pb_F (fun q => q < w.2.2.2) H2 H3 ∧ ∃ S' v, MW w H3 o S' ∧ S'.1 0 = k ∧ dv z v ∧ (k = 0 → ∃ g, pb_A w H3 oD 3 1 (updV g 0 (.double v))) ∧ LWI w H3 b sl o oL oD S'
theorem MW.o {w : pb_W} {H : Heap} {o : Nat} {S : mS} (h : MW w H o S) : ∃ fs, pb_R w H o 2 fs := ⟨_, h.2.1.r⟩
theorem MW.keptF {w : pb_W} {H H1 : Heap} {o : Nat} {S : mS} (h : MW w H o S) (e : ∀ q, o ≤ q → q < o + 13 → H1[q]? = H[q]?) : MW w H1 o S := by
  obtain ⟨h0, h1, h2, h3, h4, h5, h6, h7, h8, h9, h10, h11, h12, h13⟩ := h
  exact ⟨h0, h1.kept (e _ (by omega) (by omega)), h2.kept (e _ (by omega) (by omega)), h3.kept (e _ (by omega) (by omega)), h4.kept (e _ (by omega) (by omega)), h5.kept (e _ (by omega) (by omega)), h6.kept (e _ (by omega) (by omega)), h7.kept (e _ (by omega) (by omega)), h8.kept (e _ (by omega) (by omega)), h9.kept (e _ (by omega) (by omega)), h10.kept (e _ (by omega) (by omega)), h11.kept (e _ (by omega) (by omega)), h12.kept (e _ (by omega) (by omega)), h13.kept (e _ (by omega) (by omega))⟩
theorem MW.end {w : pb_W} {H : Heap} {o : Nat} {S : mS} (h : MW w H o S) : o + 13 ≤ H.size := by
  have := h.2.2.2.2.2.2.2.2.2.2.2.2.2.lt
  omega
/-- the reference's cells are not the law's other cells -/
theorem mF.frm {o oL oD : Nat} {H H1 : Heap} (h : mF o H H1) : pb_F (fun q => q < o ∨ o + 13 ≤ q) H H1 := ⟨Nat.le_of_eq h.1.symm, fun q _ hq => h.2 q hq⟩
/-- from the old heap to the new one, the board unchanged, the reference's cells and the law's two arrays written -/
theorem LWI.move {w : pb_W} {H H3 : Heap} {b sl o oL oD : Nat} {S S' : mS} (h : LWI w H b sl o oL oD S) (f : pb_F (fun q => q < H.size ∧ lM o oL oD q) H H3) (hM : MW w H3 o S') (hS : SE S S') (hB : S'.2.1 0 = S.2.1 0) (hL : ∃ g, pb_A w H3 oL 2 1 g) (hD : ∃ g, pb_A w H3 oD 3 1 g) : LWI w H3 b sl o oL oD S' := by
  obtain ⟨M, e, V, G, pv, h1, h2, h3, h4, h5, h6, h7, h8, h9, h10, h11, h12, h13, h14, h15, h16⟩ := h
  have ha := h3.a
  refine ⟨M, e, V, G, pv, hM, by unfold mok; rw [hB]; exact h2, ?_, ?_, (h5.kept (f.mono fun q _ hq => ⟨hq.1, hq.2.1⟩)).se hS, hL, hD, h8, h9, h10, h11, h12, Nat.le_trans h13 f.1, h14, h15, h16⟩
  · exact h3.frm f ⟨ha.2.2.1, h14⟩ ⟨ha.2.2.2.1, h15⟩ ⟨ha.2.1, h16⟩ fun q hq hm => ⟨hq, h5.M.1 q hm⟩
  · intro i hi
    rw [h4 i hi]
    funext y
    unfold mg
    rw [hB]
theorem LWI.st {w : pb_W} {H : Heap} {b sl o oL oD : Nat} {S : mS} (h : LWI w H b sl o oL oD S) : MW w H o S ∧ mok S ∧ w.2.2.2 ≤ oL ∧ w.2.2.2 ≤ oD ∧ (oL < o ∨ o + 13 ≤ oL) ∧ (oD < o ∨ o + 13 ≤ oD) ∧ oL ≠ oD ∧ o + 13 ≤ H.size ∧ oL < H.size ∧ oD < H.size ∧ (∃ g, pb_A w H oL 2 1 g) ∧ (∃ g, pb_A w H oD 3 1 g) := by
  obtain ⟨M, e, V, G, pv, h1, h2, h3, h4, h5, ⟨g6, h6⟩, ⟨g7, h7⟩, h8, h9, h10, h11, h12, h13, h14, h15, h16⟩ := h
  exact ⟨h1, h2, h8, h9, h10, h11, h12, h13, h6.lt, h7.lt, ⟨g6, h6⟩, ⟨g7, h7⟩⟩
theorem LWI.b {w : pb_W} {H : Heap} {b sl o oL oD : Nat} {S : mS} (h : LWI w H b sl o oL oD S) : ∃ fs, pb_R w H b 0 fs := by
  obtain ⟨M, e, V, G, pv, h1, h2, h3, -⟩ := h
  exact ⟨_, h3.1.r⟩
/-- a heap whose old cells stand -/
theorem LWI.old {w : pb_W} {H H2 : Heap} {b sl o oL oD : Nat} {S : mS} (h : LWI w H b sl o oL oD S) (f : pb_F (fun _ => True) H H2) : LWI w H2 b sl o oL oD S := by
  obtain ⟨h1, -, -, -, -, -, -, h13, h14, h15, ⟨g6, h6⟩, ⟨g7, h7⟩⟩ := h.st
  exact h.move (f.mono fun _ _ _ => trivial) (h1.keptF fun q a1 a2 => f.2 q (by omega) trivial) ⟨rfl, rfl, rfl⟩ rfl ⟨_, h6.kept (f.2 _ h14 trivial)⟩ ⟨_, h7.kept (f.2 _ h15 trivial)⟩
theorem SE.thr (S : mS) (k : Int) : SE S (mI S 0 k) := ⟨rfl, rfl, rfl⟩
/-- an exception on both sides -/
theorem StepI_x {w : pb_W} {l : Launch} {yW : MethodName} {cW : ByteArray} {nW : Nat} {tt : List (Nat × Nat × Nat × Nat)} {yX : MethodName} {cX : ByteArray} {nX : Nat} {rX : FieldType} {asW asX : List Value} {H : Heap} {b sl o oL oD mc ms d' : Nat} {S : mS} {k : Int} (hI : LWI w H b sl o oL oD S) (hmc : mc ≤ 49000) (hms : ms ≤ 228000) (hd : d' ≤ 15) (hk : 1 ≤ k ∧ k ≤ 3)
    (hW : pb_MW w l yW cW nW (some .int) tt 15 mc ms asW H (pb_qi (fun z H1 => z = k ∧ pb_F (fun _ => True) H H1)))
    (hX : ∀ H2, MW w H2 o S → pb_M w l yX cX nX (some rX) d' 0 0 asX H2 (pb_qi (fun z H1 => z = 0 ∧ ∃ S', SE S S' ∧ S'.2.1 0 = S.2.1 0 ∧ S'.1 0 = k ∧ MW w H1 o S' ∧ mF o H2 H1))) :
    StepI w l yW cW nW tt yX cX nX rX asW asX H b sl o oL oD := by
  have hs := hI.st
  have ho : w.2.2.2 ≤ o := hs.1.1
  refine ⟨mc, ms, d', _, fun _ H2 z H1 => z = 0 ∧ ∃ S', SE S S' ∧ S'.2.1 0 = S.2.1 0 ∧ S'.1 0 = k ∧ MW w H1 o S' ∧ mF o H2 H1, hmc, hms, hd, hW, ?_, ?_⟩
  · rintro k' H2 ⟨rfl, f⟩
    have h2 := (hI.old f).st.1
    exact ⟨f.mono fun _ _ _ => trivial, by omega, h2.o, hX H2 h2⟩
  · rintro k' H2 z H3 ⟨rfl, f⟩ ⟨rfl, S', e1, e2, e3, e4, e5⟩
    have h2 := hI.old f
    have h3 := h2.st
    obtain ⟨g6, h6⟩ := h3.2.2.2.2.2.2.2.2.2.2.1
    obtain ⟨g7, h7⟩ := h3.2.2.2.2.2.2.2.2.2.2.2
    refine ⟨e5.z ho, S', e4, e3, fun h => by omega, fun h => by omega, h2.move ⟨Nat.le_of_eq e5.1.symm, fun q hq hm => e5.2 q hm.2.1⟩ e4 e1 e2 ⟨_, h6.kept (e5.2 _ h3.2.2.2.2.1)⟩ ⟨_, h7.kept (e5.2 _ h3.2.2.2.2.2.1)⟩⟩
theorem StepL_x {w : pb_W} {l : Launch} {yW : MethodName} {cW : ByteArray} {nW : Nat} {tt : List (Nat × Nat × Nat × Nat)} {yX : MethodName} {cX : ByteArray} {nX : Nat} {asW asX : List Value} {H : Heap} {b sl o oL oD mc ms d' : Nat} {S : mS} {k : Int} (hI : LWI w H b sl o oL oD S) (hmc : mc ≤ 49000) (hms : ms ≤ 228000) (hd : d' ≤ 15) (hk : 1 ≤ k ∧ k ≤ 3)
    (hW : pb_MW w l yW cW nW (some .int) tt 15 mc ms asW H (pb_qi (fun z H1 => z = k ∧ pb_F (fun _ => True) H H1)))
    (hX : ∀ H2, MW w H2 o S → pb_M w l yX cX nX (some .long) d' 0 0 asX H2 (pb_ql (fun z H1 => z = 0 ∧ MW w H1 o (mI S 0 k) ∧ mF o H2 H1))) :
    StepL w l yW cW nW tt yX cX nX asW asX H b sl o oL oD := by
  have hs := hI.st
  have ho : w.2.2.2 ≤ o := hs.1.1
  refine ⟨mc, ms, d', _, fun _ H2 z H1 => z = 0 ∧ MW w H1 o (mI S 0 k) ∧ mF o H2 H1, hmc, hms, hd, hW, ?_, ?_⟩
  · rintro k' H2 ⟨rfl, f⟩
    have h2 := (hI.old f).st.1
    exact ⟨f.mono fun _ _ _ => trivial, by omega, h2.o, hX H2 h2⟩
  · rintro k' H2 z H3 ⟨rfl, f⟩ ⟨rfl, e4, e5⟩
    have h2 := hI.old f
    have h3 := h2.st
    obtain ⟨g6, h6⟩ := h3.2.2.2.2.2.2.2.2.2.2.1
    obtain ⟨g7, h7⟩ := h3.2.2.2.2.2.2.2.2.2.2.2
    refine ⟨e5.z ho, _, e4, rfl, fun h => by omega, h2.move ⟨Nat.le_of_eq e5.1.symm, fun q hq hm => e5.2 q hm.2.1⟩ e4 (SE.thr S _) rfl ⟨_, h6.kept (e5.2 _ h3.2.2.2.2.1)⟩ ⟨_, h7.kept (e5.2 _ h3.2.2.2.2.2.1)⟩⟩
theorem StepD_x {w : pb_W} {l : Launch} {yW : MethodName} {cW : ByteArray} {nW : Nat} {tt : List (Nat × Nat × Nat × Nat)} {yX : MethodName} {cX : ByteArray} {nX : Nat} {rX : FieldType} {dv : Value → UInt64 → Prop} {v0 : UInt64} {asW asX : List Value} {H : Heap} {b sl o oL oD mc ms d' : Nat} {S : mS} {k : Int} {z0 : Value} (hI : LWI w H b sl o oL oD S) (hmc : mc ≤ 49000) (hms : ms ≤ 228000) (hd : d' ≤ 15) (hk : 1 ≤ k ∧ k ≤ 3) (hv : dv z0 v0)
    (hW : pb_MW w l yW cW nW (some .int) tt 15 mc ms asW H (pb_qi (fun z H1 => z = k ∧ pb_F (fun _ => True) H H1)))
    (hX : ∀ H2, MW w H2 o S → pb_M w l yX cX nX (some rX) d' 0 0 asX H2 (pb_qq (fun z H1 => z = z0 ∧ MW w H1 o (mI S 0 k) ∧ mF o H2 H1))) :
    StepD w l yW cW nW tt yX cX nX rX dv asW asX H b sl o oL oD := by
  have hs := hI.st
  have ho : w.2.2.2 ≤ o := hs.1.1
  refine ⟨mc, ms, d', _, fun _ H2 z H1 => z = z0 ∧ MW w H1 o (mI S 0 k) ∧ mF o H2 H1, hmc, hms, hd, hW, ?_, ?_⟩
  · rintro k' H2 ⟨rfl, f⟩
    have h2 := (hI.old f).st.1
    exact ⟨f.mono fun _ _ _ => trivial, by omega, h2.o, hX H2 h2⟩
  · rintro k' H2 z H3 ⟨rfl, f⟩ ⟨rfl, e4, e5⟩
    have h2 := hI.old f
    have h3 := h2.st
    obtain ⟨g6, h6⟩ := h3.2.2.2.2.2.2.2.2.2.2.1
    obtain ⟨g7, h7⟩ := h3.2.2.2.2.2.2.2.2.2.2.2
    refine ⟨e5.z ho, _, v0, e4, rfl, hv, fun h => by omega, h2.move ⟨Nat.le_of_eq e5.1.symm, fun q hq hm => e5.2 q hm.2.1⟩ e4 (SE.thr S _) rfl ⟨_, h6.kept (e5.2 _ h3.2.2.2.2.1)⟩ ⟨_, h7.kept (e5.2 _ h3.2.2.2.2.2.1)⟩⟩
