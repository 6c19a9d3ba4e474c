set_option maxRecDepth 100000
/-! the path's operations -/
section PTH
variable {w : pb_W} {l : Launch} {H : Heap} {b sl o oL oD : Nat} {S : mS} {M : Nat → Prop} {e : Nat} {V : List Nat} {G : Nat → Nat → Nat} {pv : Value}
theorem LWP.mid3 (hP : LWP w H b sl o oL oD S M e V G pv) {H1 H2 : Heap} {Q : Nat → Prop} (hQ : ∀ q, q < H.size → Q q ∨ (w.2.2.2 ≤ q ∧ lM o oL oD q)) (f1 : pb_F Q H H1) (u : pb_Up oL H1 H2) : pb_F (fun q => q < w.2.2.2) H H2 ∧ MW w H2 o S := by
  obtain ⟨h1, h2, h3, h4, h5, h6, h7, h8, h9, h10, h11, h12, h13, h14, h15, h16⟩ := hP
  refine ⟨⟨by rw [u.1]; exact f1.1, fun q hq hz => ?_⟩, h1.keptF fun q a1 a2 => ?_⟩
  · have hz : q < w.2.2.2 := hz
    rw [u.2 q (by omega)]
    exact f1.2 q hq ((hQ q hq).resolve_right (by omega))
  · rw [u.2 q (by omega)]
    refine f1.2 q (by omega) ((hQ q (by omega)).resolve_right ?_)
    rintro ⟨-, h, -⟩
    omega
theorem LWP.lD3 (hP : LWP w H b sl o oL oD S M e V G pv) {H1 H2 H3 : Heap} {Q : Nat → Prop} (hQ : ∀ q, q < H.size → Q q ∨ (w.2.2.2 ≤ q ∧ lM o oL oD q)) (f1 : pb_F Q H H1) (u : pb_Up oL H1 H2) (m : mF o H2 H3) : ∃ g, pb_A w H3 oD 3 1 g := by
  obtain ⟨h1, h2, h3, h4, h5, h6, ⟨g7, h7⟩, h8, h9, h10, h11, h12, h13, h14, h15, h16⟩ := hP
  refine ⟨g7, h7.kept ?_⟩
  rw [m.2 oD h11, u.2 oD (fun h => h12 h.symm)]
  exact f1.2 oD h7.lt ((hQ oD h7.lt).resolve_right fun h => h.2.2.2 rfl)
theorem f13_ok {H1 H2 H3 : Heap} (u : pb_Up oL H1 H2) (m : mF o H2 H3) : pb_F (fun q => lM o oL oD q) H1 H3 := ⟨by rw [m.1, u.1]; exact Nat.le_refl _, fun q _ hm => by rw [m.2 q hm.1, u.2 q hm.2.1]⟩
theorem mg_same {S S' : mS} (h : S'.2.1 0 = S.2.1 0) (i : Nat) : mg S' i = mg S i := by funext y; unfold mg; rw [h]
theorem stp_moveTo (hlx : l.stackTraces = false) (hI : LWI w H b sl o oL oD S) (a1 a2 : Int) (ra1 : -2147483648 ≤ a1 ∧ a1 ≤ 2147483647) (ra2 : -2147483648 ≤ a2 ∧ a2 ≤ 2147483647) : StepI w l yX0_moveTo cX0_moveTo 5 [(0, 10, 13, 15)] yX3_moveTo cX3_moveTo 3 .int [.ref b, .int (iZ (a1)), .int (iZ (a2)), .ref oL] [.ref o, .int (iZ (a1)), .int (iZ (a2))] H b sl o oL oD := by
  obtain ⟨M, e, V, G, pv, hP⟩ := id hI
  have hP := hP.g
  obtain ⟨h1, h2, h3, h4, h5, ⟨g6, h6⟩, ⟨g7, h7⟩, h8, h9, h10, h11, h12, h13, h14, h15, h16⟩ := id hP
  have hBo := h3.1.r
  have hs := hI.st
  have ha := h3.a
  have hb0 := h3.2.1
  by_cases c : (0 ≤ a1 ∧ a1 ≤ 24) ∧ 0 ≤ a2 ∧ a2 ≤ 24
  · have hQ : ∀ q, q < H.size → (q < H.size ∧ q ≠ b) ∨ (w.2.2.2 ≤ q ∧ lM o oL oD q) := fun q hq => by
      by_cases h : q = b
      · rw [h]; exact Or.inr ⟨hb0, h14⟩
      · exact Or.inl ⟨hq, h⟩
    refine ⟨_, _, 2, _, fun _ H2 z H3 => z = 1 ∧ MW w H3 o (mI (mC (mC (mI S 0 0) 0 (va_up (S.2.2 0) 0 a1)) 1 (va_up (S.2.2 1) 0 a2)) 1 1) ∧ mF o H2 H3, ?_, ?_, ?_, met_X0_moveTo l b oL _ hBo a1 a2 _ _ _ (fun z H1 => z = 1 ∧ (∃ c xs ys, H.size ≤ c ∧ H.size ≤ xs ∧ H.size ≤ ys ∧ Po w H1 c xs ys (va_up (fun _ => 0) 0 a1) (va_up (fun _ => 0) 0 a2) 1 ∧ BP w H1 (fun q => q ≠ c ∧ q ≠ xs ∧ q ≠ ys ∧ lM o oL oD q) b sl e (.ref c) V (mg S)) ∧ pb_F (fun q => q < H.size ∧ q ≠ b) H H1) g6 (by decide) (met_X1_moveTo l M b sl e pv V (mg S) h3 (lM o oL oD) h5.M.1 a1 a2 c) ?_ h6 h8, ?_, ?_⟩
    · decide
    · decide
    · exact (by decide : 2 ≤ 15)
    · rintro z H1 ⟨hz, -, f1⟩
      refine ⟨⟨f1.1, fun q hq hz => f1.2 q hq ((hQ q hq).resolve_right ?_)⟩, f1.2 _ h6.lt ((hQ _ h6.lt).resolve_right fun h => h.2.2.1 rfl), by omega⟩
      have hz : q < w.2.2.2 := hz
      omega
    · rintro k H2 ⟨rfl, z, H1, g9, ⟨hz, -, f1⟩, hA, u⟩
      obtain ⟨m1, m2⟩ := hP.mid3 hQ f1 u
      exact ⟨m1, by decide, m2.o, met_X3_moveTo l o S m2 a1 a2 ra1 ra2 c⟩
    · rintro k H2 z H3 ⟨rfl, z1, H1, g9, ⟨hz, ⟨cc, xs, ys, n1, n2, n3, hPo, hB⟩, f1⟩, hA, u⟩ ⟨hz3, e4, e5⟩
      have hA3 : pb_A w H3 oL 2 1 (updV g9 0 (.long (lZ z1))) := hA.kept (e5.2 _ hs.2.2.2.2.1)
      have hz9 : z = z1 := hz3.trans hz.symm
      have f13 : pb_F (fun q => lM o oL oD q) H1 H3 := f13_ok u e5
      have hz1 := h6.lt
      have hz2 := h7.lt
      rw [hz9]
      have hlm : ∀ q, H.size ≤ q → lM o oL oD q := fun q hq => ⟨by omega, by omega, by omega⟩
      refine ⟨e5.z hs.1.1, _, e4, rfl, fun _ => ⟨by omega, g9, hA3⟩, fun _ h => (by cases h), fun q => q ≠ cc ∧ q ≠ xs ∧ q ≠ ys ∧ lM o oL oD q, e, V, mg S, .ref cc, e4, h2, hB.frm f13 h14 h15 h16 (fun q _ hm => hm.2.2.2), fun i _ => (mg_same rfl i).symm, Or.inr ⟨cc, xs, ys, 1, _, _, rfl, hPo.kept f13 (hlm _ n1) (hlm _ n2) (hlm _ n3), by decide, rfl, ?_, ?_, ?_, ⟨by omega, by omega, by omega⟩, ⟨hlm _ n1, hlm _ n2, hlm _ n3⟩, ⟨by omega, by omega, by omega⟩, fun q => Iff.rfl⟩, ⟨_, hA3⟩, hP.lD3 hQ f1 u e5, h8, h9, h10, h11, h12, ?_, h14, h15, h16⟩
      · intro i hi
        obtain rfl : i = 0 := by omega
        exact ⟨rfl, rfl⟩
      · intro i hi
        obtain rfl : i = 0 := by omega
        exact c
      · intro j hj; omega
      · rw [e5.1, u.1]; exact Nat.le_trans h13 f1.1
  · exact StepI_x hI (by decide +kernel) (by decide +kernel) (by decide) (by decide) (mex_X0_moveTo_1 l b oL _ hBo a1 a2 _ _ _ (by decide) (mex_X1_moveTo_1 l hlx b a1 a2 ra1 ra2 c)) (fun H2 hM => fx_ok (met_X3_moveTo_1 l o S hM a1 a2 ra1 ra2 c))
theorem stp_lineTo (hlx : l.stackTraces = false) (hI : LWI w H b sl o oL oD S) (a1 a2 : Int) (ra1 : -2147483648 ≤ a1 ∧ a1 ≤ 2147483647) (ra2 : -2147483648 ≤ a2 ∧ a2 ≤ 2147483647) : StepI w l yX0_lineTo cX0_lineTo 5 [(0, 10, 13, 31), (0, 10, 17, 15)] yX3_lineTo cX3_lineTo 3 .int [.ref b, .int (iZ (a1)), .int (iZ (a2)), .ref oL] [.ref o, .int (iZ (a1)), .int (iZ (a2))] H b sl o oL oD := by
  obtain ⟨M, e, V, G, pv, hP⟩ := id hI
  have hP := hP.g
  obtain ⟨h1, h2, h3, h4, h5, ⟨g6, h6⟩, ⟨g7, h7⟩, h8, h9, h10, h11, h12, h13, h14, h15, h16⟩ := id hP
  have hBo := h3.1.r
  have hs := hI.st
  rcases id h5 with ⟨rfl, p2, -⟩ | ⟨cc, xs, ys, n, X, Y, rfl, p2, p3, p4, p5, p6, p7, p8, p9, p10, p11⟩
  · exact StepI_x hI (by decide +kernel) (by decide +kernel) (by decide) (by decide) (mex_X0_lineTo_1 l b oL _ hBo a1 a2 _ _ _ (by decide) (mex_X1_lineTo_1a l hlx b _ hBo a1 a2)) (fun H2 hM => fx_ok (met_X3_lineTo_1 l o S hM a1 a2 ra1 ra2 0 p2 (fun i hi => absurd hi (Nat.not_lt_zero i)) (Or.inl rfl)))
  · have hrg : ∀ i, i < n → (0 ≤ S.2.2 0 i ∧ S.2.2 0 i ≤ 24) ∧ 0 ≤ S.2.2 1 i ∧ S.2.2 1 i ≤ 24 := fun i hi => by
      rw [← (p5 i hi).1, ← (p5 i hi).2]; exact p6 i hi
    by_cases hn : n = 40
    · subst hn
      exact StepI_x hI (by decide +kernel) (by decide +kernel) (by decide) (by decide) (mex_X0_lineTo_1 l b oL _ hBo a1 a2 _ _ _ (by decide) (mex_X1_lineTo_1b l hlx b cc _ _ _ hBo p2.1.r a1 a2)) (fun H2 hM => fx_ok (met_X3_lineTo_1 l o S hM a1 a2 ra1 ra2 40 p4 hrg (Or.inr rfl)))
    · have hl := p5 (n - 1) (by omega)
      have hst9 : stA X Y (n - 1) a1 a2 = true ↔ ¬ (a1 = S.2.2 0 (n - 1) ↔ a2 = S.2.2 1 (n - 1)) := by rw [← hl.1, ← hl.2]; exact stA_iff
      by_cases c : ((0 ≤ a1 ∧ a1 ≤ 24) ∧ 0 ≤ a2 ∧ a2 ≤ 24) ∧ stA X Y (n - 1) a1 a2 = true
      · have hQ : ∀ q, q < H.size → (q ≠ cc ∧ q ≠ xs ∧ q ≠ ys) ∨ (w.2.2.2 ≤ q ∧ lM o oL oD q) := fun q hq => by
          by_cases e1 : q = cc
          · rw [e1]; exact Or.inr ⟨p8.1, p9.1⟩
          · by_cases e2 : q = xs
            · rw [e2]; exact Or.inr ⟨p8.2.1, p9.2.1⟩
            · by_cases e3 : q = ys
              · rw [e3]; exact Or.inr ⟨p8.2.2, p9.2.2⟩
              · exact Or.inl ⟨e1, e2, e3⟩
        have hB0 : BP w H (fun q => q ≠ cc ∧ q ≠ xs ∧ q ≠ ys ∧ lM o oL oD q) b sl e (.ref cc) V (mg S) := h3.monoM fun q _ hm => (p11 q).mp hm
        refine ⟨_, _, 2, _, fun _ H2 z H3 => z = ((n + 1 : Nat) : Int) ∧ MW w H3 o (mI (mC (mC (mI S 0 0) 0 (va_up (S.2.2 0) n a1)) 1 (va_up (S.2.2 1) n a2)) 1 ((n + 1 : Nat) : Int)) ∧ mF o H2 H3, ?_, ?_, ?_, met_X0_lineTo l b oL _ hBo a1 a2 _ _ _ (fun z H1 => z = ((n + 1 : Nat) : Int) ∧ Po w H1 cc xs ys (va_up X n a1) (va_up Y n a2) (n + 1) ∧ BP w H1 (fun q => q ≠ cc ∧ q ≠ xs ∧ q ≠ ys ∧ lM o oL oD q) b sl e (.ref cc) V (mg S) ∧ pb_F (fun q => q ≠ cc ∧ q ≠ xs ∧ q ≠ ys) H H1) g6 (by decide) (met_X1_lineTo l (lM o oL oD) b sl e cc xs ys V (mg S) hB0 X Y n p2 p8 a1 a2 c.1 (by omega) c.2) ?_ h6 h8, ?_, ?_⟩
        · decide
        · decide
        · exact (by decide : 2 ≤ 15)
        · rintro z H1 ⟨hz, -, -, f1⟩
          refine ⟨⟨f1.1, fun q hq hz => f1.2 q hq ((hQ q hq).resolve_right ?_)⟩, f1.2 _ h6.lt ((hQ _ h6.lt).resolve_right fun h => h.2.2.1 rfl), by omega⟩
          have hz : q < w.2.2.2 := hz
          omega
        · rintro k H2 ⟨rfl, z, H1, g9, ⟨hz, -, -, f1⟩, hA, u⟩
          obtain ⟨m1, m2⟩ := hP.mid3 hQ f1 u
          exact ⟨m1, by decide, m2.o, met_X3_lineTo l o S m2 a1 a2 ra1 ra2 n p4 hrg p3.1 (by omega) c.1 (hst9.mp c.2)⟩
        · rintro k H2 z H3 ⟨rfl, z1, H1, g9, ⟨hz, hPo, hB, f1⟩, hA, u⟩ ⟨hz3, e4, e5⟩
          have hA3 : pb_A w H3 oL 2 1 (updV g9 0 (.long (lZ z1))) := hA.kept (e5.2 _ hs.2.2.2.2.1)
          have hz9 : z = z1 := hz3.trans hz.symm
          have f13 : pb_F (fun q => lM o oL oD q) H1 H3 := f13_ok u e5
          rw [hz9]
          refine ⟨e5.z hs.1.1, _, e4, rfl, fun _ => ⟨by omega, g9, hA3⟩, fun _ h => (by cases h), fun q => q ≠ cc ∧ q ≠ xs ∧ q ≠ ys ∧ lM o oL oD q, e, V, mg S, .ref cc, e4, h2, hB.frm f13 h14 h15 h16 (fun q _ hm => hm.2.2.2), fun i _ => (mg_same rfl i).symm, Or.inr ⟨cc, xs, ys, n + 1, _, _, rfl, hPo.kept f13 p9.1 p9.2.1 p9.2.2, by omega, rfl, ?_, ?_, lnP_up p7 p3.1 c.2, p8, p9, p10, fun q => Iff.rfl⟩, ⟨_, hA3⟩, hP.lD3 hQ f1 u e5, h8, h9, h10, h11, h12, ?_, h14, h15, h16⟩
          · intro i hi
            show va_up X n a1 i = va_up (S.2.2 0) n a1 i ∧ va_up Y n a2 i = va_up (S.2.2 1) n a2 i
            unfold va_up
            by_cases h : i = n
            · rw [if_pos h, if_pos h, if_pos h, if_pos h]; exact ⟨rfl, rfl⟩
            · rw [if_neg h, if_neg h, if_neg h, if_neg h]; exact p5 i (by omega)
          · intro i hi
            unfold va_up
            by_cases h : i = n
            · rw [if_pos h, if_pos h]; exact c.1
            · rw [if_neg h, if_neg h]; exact p6 i (by omega)
          · rw [e5.1, u.1]; exact Nat.le_trans h13 f1.1
      · exact StepI_x hI (by decide +kernel) (by decide +kernel) (by decide) (by decide) (mex_X0_lineTo_2 l b oL _ hBo a1 a2 _ _ _ (by decide) (mex_X1_lineTo_2 l hlx b cc xs ys _ hBo X Y n p2 (by omega) a1 a2 ra1 ra2 c)) (fun H2 hM => fx_ok (met_X3_lineTo_2 l o S hM a1 a2 ra1 ra2 n p4 hrg p3.1 (by omega) (fun h => c ⟨h.1, hst9.mpr h.2⟩)))
theorem stp_closePath (hlx : l.stackTraces = false) (hI : LWI w H b sl o oL oD S) (a1 : Int) (ra1 : -2147483648 ≤ a1 ∧ a1 ≤ 2147483647) (od : Bool) : StepI w l yX0_closePath cX0_closePath 5 [(0, 10, 13, 13), (0, 10, 17, 31)] yX3_closePath cX3_closePath 6 .int [.ref b, .int (iZ (a1)), .int (iZ (bI od)), .ref oL] [.ref o, .int (iZ (a1)), .int (iZ (bI od))] H b sl o oL oD := by
  obtain ⟨M, e, V, G, pv, hP⟩ := id hI
  have hP := hP.g
  obtain ⟨h1, h2, h3, h4, h5, ⟨g6, h6⟩, ⟨g7, h7⟩, h8, h9, h10, h11, h12, h13, h14, h15, h16⟩ := id hP
  have hBo := h3.1.r
  have hS := h3.sq
  have hs := hI.st
  have ha := h3.a
  have hb0 := h3.2.1
  rcases id h5 with ⟨rfl, p2, -⟩ | ⟨cc, xs, ys, n, X, Y, rfl, p2, p3, p4, p5, p6, p7, p8, p9, p10, p11⟩
  · by_cases c1 : 0 ≤ a1 ∧ a1 ≤ 7
    · obtain ⟨t, rfl, ht⟩ := sh_nat c1
      exact StepI_x hI (by decide +kernel) (by decide +kernel) (by decide) (by decide) (mex_X0_closePath_2 l b oL _ hBo _ _ _ _ _ (by decide) (mex_X1_closePath_2a l hlx b sl V _ (mg S) hS t ht od)) (fun H2 hM => fx_ok (met_X3_closePath_2 l o S hM t ht od 0 p2 (fun i hi => absurd hi (Nat.not_lt_zero i)) (by decide) (fun h => absurd h.1 (by decide))))
    · exact StepI_x hI (by decide +kernel) (by decide +kernel) (by decide) (by decide) (mex_X0_closePath_1 l b oL _ hBo _ _ _ _ _ (by decide) (mex_X1_closePath_1 l hlx b _ hBo a1 ra1 c1 od)) (fun H2 hM => fx_ok (met_X3_closePath_1 l o S hM a1 ra1 c1 od 0 p2 (fun i hi => absurd hi (Nat.not_lt_zero i))))
  · have hrg : ∀ i, i < n → (0 ≤ S.2.2 0 i ∧ S.2.2 0 i ≤ 24) ∧ 0 ≤ S.2.2 1 i ∧ S.2.2 1 i ≤ 24 := fun i hi => by
      rw [← (p5 i hi).1, ← (p5 i hi).2]; exact p6 i hi
    by_cases c1 : 0 ≤ a1 ∧ a1 ≤ 7
    · obtain ⟨t, rfl, ht⟩ := sh_nat c1
      have hcc9 : ccA X Y n = true ↔ 4 ≤ n ∧ ¬ (S.2.2 0 0 = S.2.2 0 (n - 1) ↔ S.2.2 1 0 = S.2.2 1 (n - 1)) := by
        rw [← (p5 0 (by omega)).1, ← (p5 0 (by omega)).2, ← (p5 (n - 1) (by omega)).1, ← (p5 (n - 1) (by omega)).2]; exact ccA_iff
      by_cases hcc : ccA X Y n = true
      · have hQ : ∀ q, q < H.size → (q < H.size ∧ q ≠ b ∧ q ≠ e) ∨ (w.2.2.2 ≤ q ∧ lM o oL oD q) := fun q hq => by
          by_cases e1 : q = b
          · rw [e1]; exact Or.inr ⟨hb0, h14⟩
          · by_cases e2 : q = e
            · rw [e2]; exact Or.inr ⟨ha.1, h16⟩
            · exact Or.inl ⟨hq, e1, e2⟩
        have hB0 : BP w H (fun q => q ≠ cc ∧ q ≠ xs ∧ q ≠ ys ∧ lM o oL oD q) b sl e (.ref cc) V (mg S) := h3.monoM fun q _ hm => (p11 q).mp hm
        have hz1 := h6.lt
        have hz2 := h7.lt
        have hlm : ∀ q, H.size ≤ q → lM o oL oD q := fun q hq => ⟨by omega, by omega, by omega⟩
        obtain ⟨T, hT⟩ : ∃ T : Int → Int → Bool, T = fun x y => (decide (0 ≤ x ∧ x < 24 ∧ 0 ≤ y ∧ y < 24) && wfill X Y n od y.toNat x.toNat) := ⟨_, rfl⟩
        have hbx : ∀ x y, T x y = true → (0 ≤ x ∧ x ≤ 23) ∧ 0 ≤ y ∧ y ≤ 23 := by
          intro x y h
          rw [hT] at h
          have := of_decide_eq_true (Bool.and_eq_true_iff.mp h).1
          omega
        have he9 : ∀ x y, gc (grd T) x y = (decide (0 ≤ x ∧ x < 24 ∧ 0 ≤ y ∧ y < 24) && wfill X Y n od y.toNat x.toNat) := fun x y => by rw [grd_gc hbx x y, hT]
        have hnew : ∀ S' : mS, S'.2.1 0 = rowsF (mI (mB (mI S 0 0) 1 (mdF (wfill (S.2.2 0) (S.2.2 1) n od) (S.2.1 1) 24)) 1 0) t 0 24 (mdF (wfill (S.2.2 0) (S.2.2 1) n od) (S.2.1 1) 24) → mg S' t = grd T ∧ ∀ i, i < 8 → i ≠ t → mg S' i = mg S i := fun S' hS' => by
          refine mg_new (S := S) rfl h2 ht (Nat.le_refl 24) hS' (fun j hj => ?_) (fun i j hi9 hj => ?_)
          · rw [mdF_at hj]; exact msk_lt24 _
          · rw [hT, if_pos ⟨Nat.zero_le _, hj⟩, mdF_at hj, msk_bit, decide_eq_true hi9, Bool.true_and]
            show _ = (decide (0 ≤ ((i : Nat) : Int) ∧ ((i : Nat) : Int) < 24 ∧ 0 ≤ ((j : Nat) : Int) ∧ ((j : Nat) : Int) < 24) && wfill X Y n od ((j : Nat) : Int).toNat ((i : Nat) : Int).toNat)
            rw [decide_eq_true (by omega), Bool.true_and, Int.toNat_natCast, Int.toNat_natCast]
            exact (wfill_cong p5 od j i).symm
        refine ⟨_, _, 6, _, fun _ H2 z H3 => z = ((cnt (grd T) : Nat) : Int) ∧ (∃ S', SE (mI S 1 0) S' ∧ S'.1 0 = 0 ∧ (mg S' t = grd T ∧ ∀ i, i < 8 → i ≠ t → mg S' i = mg S i) ∧ MW w H3 o S') ∧ mF o H2 H3, ?_, ?_, ?_, met_X0_closePath l b oL _ hBo _ _ _ _ _ (fun z H1 => z = ((cnt (grd T) : Nat) : Int) ∧ (∃ r, BP w H1 (fun q => q ≠ cc ∧ q ≠ xs ∧ q ≠ ys ∧ lM o oL oD q) b sl e .null (V.set t r) (gup (mg S) t (grd T))) ∧ pb_F (fun q => q < H.size ∧ q ≠ b ∧ q ≠ e) H H1) g6 (by decide) (met_X1_closePath l (lM o oL oD) b sl e cc xs ys V (mg S) hB0 X Y n p2 p8 hlm t ht (grd T) (grd_ok T) od p3 hcc (lnP_st p7 hcc) he9) ?_ h6 h8, ?_, ?_⟩
        · decide
        · decide
        · exact (by decide : 6 ≤ 15)
        · rintro z H1 ⟨hz, -, f1⟩
          refine ⟨⟨f1.1, fun q hq hz => f1.2 q hq ((hQ q hq).resolve_right ?_)⟩, f1.2 _ h6.lt ((hQ _ h6.lt).resolve_right fun h => h.2.2.1 rfl), by rw [hz]; exact rg1 _ (cnt_le _)⟩
          have hz : q < w.2.2.2 := hz
          omega
        · rintro k H2 ⟨rfl, z, H1, g9, ⟨hz, -, f1⟩, hA, u⟩
          obtain ⟨m1, m2⟩ := hP.mid3 hQ f1 u
          refine ⟨m1, by decide, m2.o, pb_M.post (met_X3_closePath l o S m2 t ht h2 od n p4 hrg (hcc9.mp hcc).1 p3.2 (hcc9.mp hcc).2) ?_⟩
          rintro v H3 ⟨z, hv, hz, e4, e5⟩
          have hm := hnew (mB (mI (mB (mI S 0 0) 1 (mdF (wfill (S.2.2 0) (S.2.2 1) n od) (S.2.1 1) 24)) 1 0) 0 (rowsF (mI (mB (mI S 0 0) 1 (mdF (wfill (S.2.2 0) (S.2.2 1) n od) (S.2.1 1) 24)) 1 0) t 0 24 (mdF (wfill (S.2.2 0) (S.2.2 1) n od) (S.2.1 1) 24))) rfl
          exact ⟨z, hv, hz.trans (by rw [hm.1]), ⟨(mB (mI (mB (mI S 0 0) 1 (mdF (wfill (S.2.2 0) (S.2.2 1) n od) (S.2.1 1) 24)) 1 0) 0 (rowsF (mI (mB (mI S 0 0) 1 (mdF (wfill (S.2.2 0) (S.2.2 1) n od) (S.2.1 1) 24)) 1 0) t 0 24 (mdF (wfill (S.2.2 0) (S.2.2 1) n od) (S.2.1 1) 24))), ⟨rfl, rfl, rfl⟩, rfl, hm, e4⟩, e5⟩
        · rintro k H2 z H3 ⟨rfl, z1, H1, g9, ⟨hz, ⟨r, hB⟩, f1⟩, hA, u⟩ ⟨hz3, ⟨S', e1, e0, ⟨e2, e2'⟩, e4⟩, e5⟩
          have hA3 : pb_A w H3 oL 2 1 (updV g9 0 (.long (lZ z1))) := hA.kept (e5.2 _ hs.2.2.2.2.1)
          have hz9 : z = z1 := hz3.trans hz.symm
          have f13 : pb_F (fun q => lM o oL oD q) H1 H3 := f13_ok u e5
          rw [hz9]
          have hmm : ∀ i, i < 8 → gup (mg S) t (grd T) i = mg S' i := fun i hi => by
            unfold gup
            by_cases c : i = t
            · rw [if_pos c, c, e2]
            · rw [if_neg c, e2' i hi c]
          refine ⟨e5.z hs.1.1, S', e4, e0, fun _ => ⟨by rw [hz]; exact rg1 _ (cnt_le _), g9, hA3⟩, fun _ h => (by cases h), lM o oL oD, e, V.set t r, gup (mg S) t (grd T), .null, e4, ?_, (hB.monoM fun q _ hm => hm.2.2.2).frm f13 h14 h15 h16 (fun q _ hm => hm), hmm, Or.inl ⟨rfl, e1.1, fun q => Iff.rfl⟩, ⟨_, hA3⟩, hP.lD3 hQ f1 u e5, h8, h9, h10, h11, h12, ?_, h14, h15, h16⟩
          · refine mok_of fun i hi => ?_
            rw [← hmm i hi]
            unfold gup
            split
            · exact grd_ok T
            · exact mg_ok h2 hi
          · rw [e5.1, u.1]; exact Nat.le_trans h13 f1.1
      · exact StepI_x hI (by decide +kernel) (by decide +kernel) (by decide) (by decide) (mex_X0_closePath_2 l b oL _ hBo _ _ _ _ _ (by decide) (mex_X1_closePath_2b l hlx b sl cc xs ys V _ (mg S) hS t ht X Y n p2 p3 (Bool.eq_false_iff.mpr hcc) od)) (fun H2 hM => fx_ok (met_X3_closePath_2 l o S hM t ht od n p4 hrg p3.2 (fun h => hcc (hcc9.mpr h))))
    · exact StepI_x hI (by decide +kernel) (by decide +kernel) (by decide) (by decide) (mex_X0_closePath_1 l b oL _ hBo _ _ _ _ _ (by decide) (mex_X1_closePath_1 l hlx b _ hBo a1 ra1 c1 od)) (fun H2 hM => fx_ok (met_X3_closePath_1 l o S hM a1 ra1 c1 od n p4 hrg))
end PTH
