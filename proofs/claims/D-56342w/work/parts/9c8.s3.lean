set_option maxRecDepth 100000
theorem box_u {g : Nat → Nat} {xl xr xb xt yl yr yb yt : Nat} (h : boxP g xl xr xb xt) (k : boxP g yl yr yb yt) : xl = yl ∧ xr = yr ∧ xb = yb ∧ xt = yt := by
  obtain ⟨⟨a1, a2, a3⟩, ⟨b1, b2, b3, b4⟩, ⟨c1, c2, c3⟩, d1, d2, d3, d4⟩ := h
  obtain ⟨⟨a1', a2', a3'⟩, ⟨b1', b2', b3', b4'⟩, ⟨c1', c2', c3'⟩, d1', d2', d3', d4'⟩ := k
  refine ⟨?_, ?_, ?_, ?_⟩
  · rcases Nat.lt_trichotomy xl yl with c | c | c
    · rw [a3' xl c] at a2; cases a2
    · exact c
    · rw [a3 yl c] at a2'; cases a2'
  · rcases Nat.lt_trichotomy xr yr with c | c | c
    · rw [b4 (yr - 1) (by omega) (by omega)] at b3'; cases b3'
    · exact c
    · rw [b4' (xr - 1) (by omega) (by omega)] at b3; cases b3
  · rcases Nat.lt_trichotomy xb yb with c | c | c
    · exact absurd (c3' xb c) c2
    · exact c
    · exact absurd (c3 yb c) c2'
  · rcases Nat.lt_trichotomy xt yt with c | c | c
    · exact absurd (d4 (yt - 1) (by omega)) d3'
    · exact c
    · exact absurd (d4' (xt - 1) (by omega)) d3
set_option maxHeartbeats 1000000 in
theorem stp_combine {w : pb_W} (l : Launch) (hlx : l.stackTraces = false) {H : Heap} {b sl o oL oD : Nat} {S : mS} (hI : LWI w H b sl o oL oD S) (a1 : Int) (ra1 : -2147483648 ≤ a1 ∧ a1 ≤ 2147483647) (a2 : Int) (ra2 : -2147483648 ≤ a2 ∧ a2 ≤ 2147483647) (a3 : Int) (ra3 : -2147483648 ≤ a3 ∧ a3 ≤ 2147483647) (a4 : Int) (ra4 : -2147483648 ≤ a4 ∧ a4 ≤ 2147483647) (rc1 : 0 ≤ a1 ∧ a1 ≤ 65535) : StepI w l yX0_combine cX0_combine 7 [(0, 14, 17, 13), (0, 14, 21, 15)] yX3_combine cX3_combine 9 .int  [.ref b, .int (iZ (a1)), .int (iZ (a2)), .int (iZ (a3)), .int (iZ (a4)), .ref oL] [.ref o, .int (iZ (a1)), .int (iZ (a2)), .int (iZ (a3)), .int (iZ (a4))] H b sl o oL oD := by
  obtain ⟨M, e, V, G, pv, hP⟩ := id hI
  have hP := hP.g
  obtain ⟨h1, h2, h3, h4, h5, ⟨g6, h6⟩, ⟨g7, h7⟩, h8, h9, -⟩ := id hP
  have hS := h3.sq
  have hBo := h3.1.r
  by_cases c1 : (0 ≤ a2 ∧ a2 ≤ 7) ∧ (0 ≤ a3 ∧ a3 ≤ 7) ∧ 0 ≤ a4 ∧ a4 ≤ 7
  · obtain ⟨s, rfl, hs⟩ := sh_nat c1.1
    obtain ⟨u, rfl, hu⟩ := sh_nat c1.2.1
    obtain ⟨t, rfl, ht⟩ := sh_nat c1.2.2
    have hgs : gok (mg S s) := mg_ok h2 hs
    have hgu : gok (mg S u) := mg_ok h2 hu
    by_cases e0 : a1 = 117
    · obtain rfl := e0
      obtain ⟨T, hT⟩ : ∃ T : Int → Int → Bool, T = fun x y => opk 0 (gc (mg S s) x y) (gc (mg S u) x y) := ⟨_, rfl⟩
      have hbx : ∀ x y, T x y = true → (0 ≤ x ∧ x ≤ 23) ∧ 0 ≤ y ∧ y ≤ 23 := by
        intro x y h
        rw [hT] at h
        exact opk_box hgs hgu x y h
      have he9 : ∀ x y, gc (grd T) x y = (fun x y => opk 0 (gc (mg S s) x y) (gc (mg S u) x y)) x y := fun x y => by rw [grd_gc hbx x y, hT]
      refine StepI_w hP ht (grd_ok T) (v := ((cnt (grd T) : Nat) : Int)) (by decide +kernel) (by decide +kernel) (by decide) (rg1 _ (cnt_le _)) (fun h => by cases h) (met_X0_combine l b oL _ hBo _ _ _ _ _ _ _ (fun z H1 => z = ((cnt (grd T) : Nat) : Int) ∧ (∃ r, BP w H1 M b sl e pv (V.set t r) (gup (mg S) t (grd T))) ∧ pb_F (fun q => q < H.size ∧ q ≠ e) H H1) g6 (by decide) (met_X1_combine l M b sl e pv V (mg S) h3 hP.new s hs u hu t ht (grd T) (grd_ok T) 0 (by decide) he9) (fun z H1 hz => ⟨(hP.k2 hz.2.2).1, (hP.k2 hz.2.2).2, by rw [hz.1]; exact rg1 _ (cnt_le _)⟩) h6 h8) (fun H2 hM => wr_ok (met_X3_combine_u l o S hM s u t hs hu ht h2) (fun e9 => by rw [e9]) ⟨rfl, rfl, rfl⟩ ?_ rfl)
      refine mg_new (S := S) (lo := 0) (hi := 24) rfl h2 ht (Nat.le_refl 24) rfl (fun j hj => ?_) (fun i j hi9 hj => ?_)
      · rw [mdR_at hj]; exact gop_lt (hgs.1 j) (hgu.1 j)
      · rw [hT, if_pos ⟨Nat.zero_le _, hj⟩, mdR_at hj]
        show _ = opk 0 (gc (mg S s) _ _) (gc (mg S u) _ _)
        rw [gc_nat, gc_nat]
        exact gop_bit (k := 0) (by decide) _ _ i
    by_cases e1 : a1 = 105
    · obtain rfl := e1
      obtain ⟨T, hT⟩ : ∃ T : Int → Int → Bool, T = fun x y => opk 1 (gc (mg S s) x y) (gc (mg S u) x y) := ⟨_, rfl⟩
      have hbx : ∀ x y, T x y = true → (0 ≤ x ∧ x ≤ 23) ∧ 0 ≤ y ∧ y ≤ 23 := by
        intro x y h
        rw [hT] at h
        exact opk_box hgs hgu x y h
      have he9 : ∀ x y, gc (grd T) x y = (fun x y => opk 1 (gc (mg S s) x y) (gc (mg S u) x y)) x y := fun x y => by rw [grd_gc hbx x y, hT]
      refine StepI_w hP ht (grd_ok T) (v := ((cnt (grd T) : Nat) : Int)) (by decide +kernel) (by decide +kernel) (by decide) (rg1 _ (cnt_le _)) (fun h => by cases h) (met_X0_combine l b oL _ hBo _ _ _ _ _ _ _ (fun z H1 => z = ((cnt (grd T) : Nat) : Int) ∧ (∃ r, BP w H1 M b sl e pv (V.set t r) (gup (mg S) t (grd T))) ∧ pb_F (fun q => q < H.size ∧ q ≠ e) H H1) g6 (by decide) (met_X1_combine l M b sl e pv V (mg S) h3 hP.new s hs u hu t ht (grd T) (grd_ok T) 1 (by decide) he9) (fun z H1 hz => ⟨(hP.k2 hz.2.2).1, (hP.k2 hz.2.2).2, by rw [hz.1]; exact rg1 _ (cnt_le _)⟩) h6 h8) (fun H2 hM => wr_ok (met_X3_combine_i l o S hM s u t hs hu ht h2) (fun e9 => by rw [e9]) ⟨rfl, rfl, rfl⟩ ?_ rfl)
      refine mg_new (S := S) (lo := 0) (hi := 24) rfl h2 ht (Nat.le_refl 24) rfl (fun j hj => ?_) (fun i j hi9 hj => ?_)
      · rw [mdR_at hj]; exact gop_lt (hgs.1 j) (hgu.1 j)
      · rw [hT, if_pos ⟨Nat.zero_le _, hj⟩, mdR_at hj]
        show _ = opk 1 (gc (mg S s) _ _) (gc (mg S u) _ _)
        rw [gc_nat, gc_nat]
        exact gop_bit (k := 1) (by decide) _ _ i
    by_cases e2 : a1 = 100
    · obtain rfl := e2
      obtain ⟨T, hT⟩ : ∃ T : Int → Int → Bool, T = fun x y => opk 2 (gc (mg S s) x y) (gc (mg S u) x y) := ⟨_, rfl⟩
      have hbx : ∀ x y, T x y = true → (0 ≤ x ∧ x ≤ 23) ∧ 0 ≤ y ∧ y ≤ 23 := by
        intro x y h
        rw [hT] at h
        exact opk_box hgs hgu x y h
      have he9 : ∀ x y, gc (grd T) x y = (fun x y => opk 2 (gc (mg S s) x y) (gc (mg S u) x y)) x y := fun x y => by rw [grd_gc hbx x y, hT]
      refine StepI_w hP ht (grd_ok T) (v := ((cnt (grd T) : Nat) : Int)) (by decide +kernel) (by decide +kernel) (by decide) (rg1 _ (cnt_le _)) (fun h => by cases h) (met_X0_combine l b oL _ hBo _ _ _ _ _ _ _ (fun z H1 => z = ((cnt (grd T) : Nat) : Int) ∧ (∃ r, BP w H1 M b sl e pv (V.set t r) (gup (mg S) t (grd T))) ∧ pb_F (fun q => q < H.size ∧ q ≠ e) H H1) g6 (by decide) (met_X1_combine l M b sl e pv V (mg S) h3 hP.new s hs u hu t ht (grd T) (grd_ok T) 2 (by decide) he9) (fun z H1 hz => ⟨(hP.k2 hz.2.2).1, (hP.k2 hz.2.2).2, by rw [hz.1]; exact rg1 _ (cnt_le _)⟩) h6 h8) (fun H2 hM => wr_ok (met_X3_combine_d l o S hM s u t hs hu ht h2) (fun e9 => by rw [e9]) ⟨rfl, rfl, rfl⟩ ?_ rfl)
      refine mg_new (S := S) (lo := 0) (hi := 24) rfl h2 ht (Nat.le_refl 24) rfl (fun j hj => ?_) (fun i j hi9 hj => ?_)
      · rw [mdR_at hj]; exact gop_lt (hgs.1 j) (hgu.1 j)
      · rw [hT, if_pos ⟨Nat.zero_le _, hj⟩, mdR_at hj]
        show _ = opk 2 (gc (mg S s) _ _) (gc (mg S u) _ _)
        rw [gc_nat, gc_nat]
        exact gop_bit (k := 2) (by decide) _ _ i
    by_cases e3 : a1 = 120
    · obtain rfl := e3
      obtain ⟨T, hT⟩ : ∃ T : Int → Int → Bool, T = fun x y => opk 3 (gc (mg S s) x y) (gc (mg S u) x y) := ⟨_, rfl⟩
      have hbx : ∀ x y, T x y = true → (0 ≤ x ∧ x ≤ 23) ∧ 0 ≤ y ∧ y ≤ 23 := by
        intro x y h
        rw [hT] at h
        exact opk_box hgs hgu x y h
      have he9 : ∀ x y, gc (grd T) x y = (fun x y => opk 3 (gc (mg S s) x y) (gc (mg S u) x y)) x y := fun x y => by rw [grd_gc hbx x y, hT]
      refine StepI_w hP ht (grd_ok T) (v := ((cnt (grd T) : Nat) : Int)) (by decide +kernel) (by decide +kernel) (by decide) (rg1 _ (cnt_le _)) (fun h => by cases h) (met_X0_combine l b oL _ hBo _ _ _ _ _ _ _ (fun z H1 => z = ((cnt (grd T) : Nat) : Int) ∧ (∃ r, BP w H1 M b sl e pv (V.set t r) (gup (mg S) t (grd T))) ∧ pb_F (fun q => q < H.size ∧ q ≠ e) H H1) g6 (by decide) (met_X1_combine l M b sl e pv V (mg S) h3 hP.new s hs u hu t ht (grd T) (grd_ok T) 3 (by decide) he9) (fun z H1 hz => ⟨(hP.k2 hz.2.2).1, (hP.k2 hz.2.2).2, by rw [hz.1]; exact rg1 _ (cnt_le _)⟩) h6 h8) (fun H2 hM => wr_ok (met_X3_combine_x l o S hM s u t hs hu ht h2) (fun e9 => by rw [e9]) ⟨rfl, rfl, rfl⟩ ?_ rfl)
      refine mg_new (S := S) (lo := 0) (hi := 24) rfl h2 ht (Nat.le_refl 24) rfl (fun j hj => ?_) (fun i j hi9 hj => ?_)
      · rw [mdR_at hj]; exact gop_lt (hgs.1 j) (hgu.1 j)
      · rw [hT, if_pos ⟨Nat.zero_le _, hj⟩, mdR_at hj]
        show _ = opk 3 (gc (mg S s) _ _) (gc (mg S u) _ _)
        rw [gc_nat, gc_nat]
        exact gop_bit (k := 3) (by decide) _ _ i
    exact StepI_x hI (by decide +kernel) (by decide +kernel) (by decide) (by decide) (mex_X0_combine_2 l b oL _ hBo _ _ _ _ _ _ _ (by decide) (mex_X1_combine_2 l hlx b sl pv V _ (mg S) hS s hs u hu t ht a1 rc1 ⟨e0, e1, e2, e3⟩)) (fun H2 hM => fx_ok (met_X3_combine_2 l o S hM a1 _ _ _ rc1 ra2 ra3 ra4 c1 e0 e1 e2 e3))
  · exact StepI_x hI (by decide +kernel) (by decide +kernel) (by decide) (by decide) (mex_X0_combine_1 l b oL _ hBo _ _ _ _ _ _ _ (by decide) (mex_X1_combine_1 l hlx b sl pv V _ (mg S) hS a1 a2 a3 a4 ra2 ra3 ra4 c1)) (fun H2 hM => fx_ok (met_X3_combine_1 l o S hM a1 a2 a3 a4 rc1 ra2 ra3 ra4 c1))
set_option maxHeartbeats 1000000 in
theorem stp_moment {w : pb_W} (l : Launch) (hlx : l.stackTraces = false) {H : Heap} {b sl o oL oD : Nat} {S : mS} (hI : LWI w H b sl o oL oD S) (a1 : Int) (ra1 : -2147483648 ≤ a1 ∧ a1 ≤ 2147483647) : StepL w l yX0_moment cX0_moment 4 [(0, 8, 11, 13)] yX3_moment cX3_moment 6   [.ref b, .int (iZ (a1)), .ref oL] [.ref o, .int (iZ (a1))] H b sl o oL oD := by
  obtain ⟨M, e, V, G, pv, hP⟩ := id hI
  have hP := hP.g
  obtain ⟨h1, h2, h3, h4, h5, ⟨g6, h6⟩, ⟨g7, h7⟩, h8, h9, -⟩ := id hP
  have hS := h3.sq
  have hBo := h3.1.r
  by_cases c1 : 0 ≤ a1 ∧ a1 ≤ 7
  · obtain ⟨s, rfl, hs⟩ := sh_nat c1
    have hgs : gok (mg S s) := mg_ok h2 hs
    exact StepL_r hP (v := ((momV (mg S s) : Nat) : Int)) (by decide +kernel) (by decide +kernel) (by decide) (met_X0_moment l b oL _ hBo _ _ _ _ (fun z H1 => z = ((momV (mg S s) : Nat) : Int) ∧ pb_F (fun q => q < H.size) H H1) g6 (by decide) (met_X1_moment l b sl pv V _ (mg S) hS s hs) (fun z H1 hz => ⟨(hP.k1 hz.2).1, (hP.k1 hz.2).2, trivial⟩) h6 h8) (fun H2 hM => met_X3_moment l o S hM s hs h2)
  · exact StepL_x hI (by decide +kernel) (by decide +kernel) (by decide) (by decide) (mex_X0_moment_1 l b oL _ hBo _ _ _ _ (by decide) (mex_X1_moment_1 l hlx b _ hBo a1 ra1 c1)) (fun H2 hM => met_X3_moment_1 l o S hM a1 ra1 c1)
set_option maxHeartbeats 1000000 in
theorem stp_momentByCells {w : pb_W} (l : Launch) (hlx : l.stackTraces = false) {H : Heap} {b sl o oL oD : Nat} {S : mS} (hI : LWI w H b sl o oL oD S) (a1 : Int) (ra1 : -2147483648 ≤ a1 ∧ a1 ≤ 2147483647) : StepL w l yX0_momentByCells cX0_momentByCells 4 [(0, 8, 11, 13)] yX3_momentByCells cX3_momentByCells 2   [.ref b, .int (iZ (a1)), .ref oL] [.ref o, .int (iZ (a1))] H b sl o oL oD := by
  obtain ⟨M, e, V, G, pv, hP⟩ := id hI
  have hP := hP.g
  obtain ⟨h1, h2, h3, h4, h5, ⟨g6, h6⟩, ⟨g7, h7⟩, h8, h9, -⟩ := id hP
  have hS := h3.sq
  have hBo := h3.1.r
  by_cases c1 : 0 ≤ a1 ∧ a1 ≤ 7
  · obtain ⟨s, rfl, hs⟩ := sh_nat c1
    have hgs : gok (mg S s) := mg_ok h2 hs
    exact StepL_r hP (v := ((momV (mg S s) : Nat) : Int)) (by decide +kernel) (by decide +kernel) (by decide) (met_X0_momentByCells l b oL _ hBo _ _ _ _ (fun z H1 => z = ((momV (mg S s) : Nat) : Int) ∧ pb_F (fun q => q < H.size) H H1) g6 (by decide) (met_X1_momentByCells l b sl pv V _ (mg S) hS s hs) (fun z H1 hz => ⟨(hP.k1 hz.2).1, (hP.k1 hz.2).2, trivial⟩) h6 h8) (fun H2 hM => met_X3_momentByCells l o S hM s hs h2)
  · exact StepL_x hI (by decide +kernel) (by decide +kernel) (by decide) (by decide) (mex_X0_momentByCells_1 l b oL _ hBo _ _ _ _ (by decide) (mex_X1_momentByCells_1 l hlx b _ hBo a1 ra1 c1)) (fun H2 hM => met_X3_momentByCells_1 l o S hM a1 ra1 c1)
set_option maxHeartbeats 1000000 in
theorem stp_middleX {w : pb_W} (l : Launch) (hlx : l.stackTraces = false) {H : Heap} {b sl o oL oD : Nat} {S : mS} (hI : LWI w H b sl o oL oD S) (a1 : Int) (ra1 : -2147483648 ≤ a1 ∧ a1 ≤ 2147483647) : StepD w l yX0_middleX cX0_middleX 4 [(0, 8, 11, 13), (0, 8, 14, 163)] yX3_middleX cX3_middleX 5 .double (fun z v => z = .double v ∧ vf_n64 v) [.ref b, .int (iZ (a1)), .ref oD] [.ref o, .int (iZ (a1))] H b sl o oL oD := by
  obtain ⟨M, e, V, G, pv, hP⟩ := id hI
  have hP := hP.g
  obtain ⟨h1, h2, h3, h4, h5, ⟨g6, h6⟩, ⟨g7, h7⟩, h8, h9, -⟩ := id hP
  have hS := h3.sq
  have hBo := h3.1.r
  by_cases c1 : 0 ≤ a1 ∧ a1 ≤ 7
  · obtain ⟨s, rfl, hs⟩ := sh_nat c1
    have hgs : gok (mg S s) := mg_ok h2 hs
    by_cases h0 : cnt (mg S s) = 0
    · exact StepD_x (v0 := FP.dconst0) hI (by decide +kernel) (by decide +kernel) (by decide) (by decide) ⟨rfl, fp_d0⟩ (mex_X0_middleX_2 l b oD _ hBo _ _ _ _ (by decide) (mex_X1_middleX_2 l hlx b sl pv V _ (mg S) hS s hs h0)) (fun H2 hM => met_X3_middleX_2 l o S hM s hs h2 h0)
    · refine StepD_r hP (P3 := fun z => z = .double (midV (midX (mg S s)) (cnt (mg S s)))) (v0 := midV (midX (mg S s)) (cnt (mg S s))) (by decide +kernel) (by decide +kernel) (by decide) (fun z hz => ⟨hz, midV_n _ (Nat.pos_of_ne_zero h0) (Nat.lt_of_le_of_lt (cnt_le _) (by decide))⟩) (pb_MW.post (met_X0_middleX l b oD _ hBo _ _ _ _ (fun z H1 => z = .double (midV (midX (mg S s)) (cnt (mg S s))) ∧ pb_F (fun q => q < H.size) H H1) g7 (by decide) (met_X1_middleX l b sl pv V _ (mg S) hS s hs h0) (fun z H1 hz => ⟨(hP.k1D hz.2).1, (hP.k1D hz.2).2, _, hz.1⟩) h7 h9) ?_) (fun H2 hM => met_X3_middleX l o S hM s hs h2 h0)
      rintro v H2 ⟨k, hk, hk0, z, H1, g, v1, ⟨hz, f1⟩, e1, hA, u⟩
      have e2 : v1 = midV (midX (mg S s)) (cnt (mg S s)) := Value.double.inj (e1.symm.trans hz)
      rw [e2] at hA
      exact ⟨k, hk, hk0, H1, g, f1, hA, u⟩
  · exact StepD_x (v0 := FP.dconst0) hI (by decide +kernel) (by decide +kernel) (by decide) (by decide) ⟨rfl, fp_d0⟩ (mex_X0_middleX_1 l b oD _ hBo _ _ _ _ (by decide) (mex_X1_middleX_1 l hlx b _ hBo a1 ra1 c1)) (fun H2 hM => met_X3_middleX_1 l o S hM a1 ra1 c1)
set_option maxHeartbeats 1000000 in
theorem stp_middleY {w : pb_W} (l : Launch) (hlx : l.stackTraces = false) {H : Heap} {b sl o oL oD : Nat} {S : mS} (hI : LWI w H b sl o oL oD S) (a1 : Int) (ra1 : -2147483648 ≤ a1 ∧ a1 ≤ 2147483647) : StepD w l yX0_middleY cX0_middleY 4 [(0, 8, 11, 13), (0, 8, 14, 163)] yX3_middleY cX3_middleY 4 .double (fun z v => z = .double v ∧ vf_n64 v) [.ref b, .int (iZ (a1)), .ref oD] [.ref o, .int (iZ (a1))] H b sl o oL oD := by
  obtain ⟨M, e, V, G, pv, hP⟩ := id hI
  have hP := hP.g
  obtain ⟨h1, h2, h3, h4, h5, ⟨g6, h6⟩, ⟨g7, h7⟩, h8, h9, -⟩ := id hP
  have hS := h3.sq
  have hBo := h3.1.r
  by_cases c1 : 0 ≤ a1 ∧ a1 ≤ 7
  · obtain ⟨s, rfl, hs⟩ := sh_nat c1
    have hgs : gok (mg S s) := mg_ok h2 hs
    by_cases h0 : cnt (mg S s) = 0
    · exact StepD_x (v0 := FP.dconst0) hI (by decide +kernel) (by decide +kernel) (by decide) (by decide) ⟨rfl, fp_d0⟩ (mex_X0_middleY_2 l b oD _ hBo _ _ _ _ (by decide) (mex_X1_middleY_2 l hlx b sl pv V _ (mg S) hS s hs h0)) (fun H2 hM => met_X3_middleY_2 l o S hM s hs h2 h0)
    · refine StepD_r hP (P3 := fun z => z = .double (midV (midY (mg S s)) (cnt (mg S s)))) (v0 := midV (midY (mg S s)) (cnt (mg S s))) (by decide +kernel) (by decide +kernel) (by decide) (fun z hz => ⟨hz, midV_n _ (Nat.pos_of_ne_zero h0) (Nat.lt_of_le_of_lt (cnt_le _) (by decide))⟩) (pb_MW.post (met_X0_middleY l b oD _ hBo _ _ _ _ (fun z H1 => z = .double (midV (midY (mg S s)) (cnt (mg S s))) ∧ pb_F (fun q => q < H.size) H H1) g7 (by decide) (met_X1_middleY l b sl pv V _ (mg S) hS s hs h0) (fun z H1 hz => ⟨(hP.k1D hz.2).1, (hP.k1D hz.2).2, _, hz.1⟩) h7 h9) ?_) (fun H2 hM => met_X3_middleY l o S hM s hs h2 h0)
      rintro v H2 ⟨k, hk, hk0, z, H1, g, v1, ⟨hz, f1⟩, e1, hA, u⟩
      have e2 : v1 = midV (midY (mg S s)) (cnt (mg S s)) := Value.double.inj (e1.symm.trans hz)
      rw [e2] at hA
      exact ⟨k, hk, hk0, H1, g, f1, hA, u⟩
  · exact StepD_x (v0 := FP.dconst0) hI (by decide +kernel) (by decide +kernel) (by decide) (by decide) ⟨rfl, fp_d0⟩ (mex_X0_middleY_1 l b oD _ hBo _ _ _ _ (by decide) (mex_X1_middleY_1 l hlx b _ hBo a1 ra1 c1)) (fun H2 hM => met_X3_middleY_1 l o S hM a1 ra1 c1)
set_option maxHeartbeats 1000000 in
theorem stp_fullness {w : pb_W} (l : Launch) (hlx : l.stackTraces = false) {H : Heap} {b sl o oL oD : Nat} {S : mS} (hI : LWI w H b sl o oL oD S) (a1 : Int) (ra1 : -2147483648 ≤ a1 ∧ a1 ≤ 2147483647) : StepD w l yX0_fullness cX0_fullness 4 [(0, 9, 12, 13), (0, 9, 15, 163)] yX3_fullness cX3_fullness 3 .float (fun z v => ∃ f, z = .float f ∧ v = FP.f2d f ∧ vf_n64 v) [.ref b, .int (iZ (a1)), .ref oD] [.ref o, .int (iZ (a1))] H b sl o oL oD := by
  obtain ⟨M, e, V, G, pv, hP⟩ := id hI
  have hP := hP.g
  obtain ⟨h1, h2, h3, h4, h5, ⟨g6, h6⟩, ⟨g7, h7⟩, h8, h9, -⟩ := id hP
  have hS := h3.sq
  have hBo := h3.1.r
  by_cases c1 : 0 ≤ a1 ∧ a1 ≤ 7
  · obtain ⟨s, rfl, hs⟩ := sh_nat c1
    have hgs : gok (mg S s) := mg_ok h2 hs
    by_cases h0 : cnt (mg S s) = 0
    · exact StepD_x (v0 := (FP.f2d FP.fconst0)) hI (by decide +kernel) (by decide +kernel) (by decide) (by decide) ⟨_, rfl, rfl, fp_f0⟩ (mex_X0_fullness_2 l b oD _ hBo _ _ _ _ (by decide) (mex_X1_fullness_2 l hlx b sl pv V _ (mg S) hS s hs h0)) (fun H2 hM => met_X3_fullness_2 l o S hM s hs h2 h0)
    · obtain ⟨xl, xr, xb, xt, hB⟩ := box_ex hgs h0
      have hbl := box_lt hB
      have hpos : 0 < (xr - xl) * (xt - xb) := Nat.mul_pos (by omega) (by omega)
      have hlt : (xr - xl) * (xt - xb) < 1000 := by
        have h9 : (xr - xl) * (xt - xb) ≤ 24 * 24 := Nat.mul_le_mul (by omega) (by omega)
        omega
      have hn9 := fulV_n (cnt (mg S s)) hpos hlt
      refine StepD_r hP (P3 := fun z => (∃ xl xr xb xt, boxP (mg S s) xl xr xb xt ∧ z = .float (fulV (cnt (mg S s)) ((xr - xl) * (xt - xb))))) (v0 := FP.f2d (fulV (cnt (mg S s)) ((xr - xl) * (xt - xb)))) (by decide +kernel) (by decide +kernel) (by decide) (fun z hz => ?_) (pb_MW.post (met_X0_fullness l b oD _ hBo _ _ _ _ (fun z H1 => z = .float (fulV (cnt (mg S s)) ((xr - xl) * (xt - xb))) ∧ pb_F (fun q => q < H.size) H H1) g7 (by decide) (met_X1_fullness l b sl pv V _ (mg S) hS s hs xl xr xb xt hB h0) (fun z H1 hz => ⟨(hP.k1D hz.2).1, (hP.k1D hz.2).2, _, hz.1, hn9⟩) h7 h9) ?_) (fun H2 hM => met_X3_fullness l o S hM s hs h2 h0)
      · obtain ⟨yl, yr, yb, yt, hB2, hz⟩ := hz
        obtain ⟨rfl, rfl, rfl, rfl⟩ := box_u hB hB2
        exact ⟨_, hz, rfl, fp_f2d hn9⟩
      · rintro v H2 ⟨k, hk, hk0, z, H1, g, v1, ⟨hz, f1⟩, e1, hA, u⟩
        have e2 : v1 = fulV (cnt (mg S s)) ((xr - xl) * (xt - xb)) := Value.float.inj (e1.symm.trans hz)
        rw [e2] at hA
        exact ⟨k, hk, hk0, H1, g, f1, hA, u⟩
  · exact StepD_x (v0 := (FP.f2d FP.fconst0)) hI (by decide +kernel) (by decide +kernel) (by decide) (by decide) ⟨_, rfl, rfl, fp_f0⟩ (mex_X0_fullness_1 l b oD _ hBo _ _ _ _ (by decide) (mex_X1_fullness_1 l hlx b _ hBo a1 ra1 c1)) (fun H2 hM => met_X3_fullness_1 l o S hM a1 ra1 c1)
set_option maxHeartbeats 1000000 in
theorem stp_steps {w : pb_W} (l : Launch) (hlx : l.stackTraces = false) {H : Heap} {b sl o oL oD : Nat} {S : mS} (hI : LWI w H b sl o oL oD S) (a1 : Int) (ra1 : -2147483648 ≤ a1 ∧ a1 ≤ 2147483647) (a2 : Int) (ra2 : -2147483648 ≤ a2 ∧ a2 ≤ 2147483647) (a3 : Int) (ra3 : -2147483648 ≤ a3 ∧ a3 ≤ 2147483647) (a4 : Int) (ra4 : -2147483648 ≤ a4 ∧ a4 ≤ 2147483647) (a5 : Int) (ra5 : -2147483648 ≤ a5 ∧ a5 ≤ 2147483647) : StepI w l yX0_steps cX0_steps 8 [(0, 16, 19, 13), (0, 16, 23, 15), (0, 16, 27, 64)] yX3_steps cX3_steps 12 .int  [.ref b, .int (iZ (a1)), .int (iZ (a2)), .int (iZ (a3)), .int (iZ (a4)), .int (iZ (a5)), .ref oL] [.ref o, .int (iZ (a1)), .int (iZ (a2)), .int (iZ (a3)), .int (iZ (a4)), .int (iZ (a5))] H b sl o oL oD := by
  obtain ⟨M, e, V, G, pv, hP⟩ := id hI
  have hP := hP.g
  obtain ⟨h1, h2, h3, h4, h5, ⟨g6, h6⟩, ⟨g7, h7⟩, h8, h9, -⟩ := id hP
  have hS := h3.sq
  have hBo := h3.1.r
  by_cases c1 : 0 ≤ a1 ∧ a1 ≤ 7
  · obtain ⟨s, rfl, hs⟩ := sh_nat c1
    have hgs : gok (mg S s) := mg_ok h2 hs
    by_cases c2 : ((0 ≤ a2 ∧ a2 ≤ 23) ∧ 0 ≤ a3 ∧ a3 ≤ 23) ∧ (0 ≤ a4 ∧ a4 ≤ 23) ∧ 0 ≤ a5 ∧ a5 ≤ 23
    · by_cases c3 : gc (mg S s) a2 a3 = true ∧ gc (mg S s) a4 a5 = true
      · obtain ⟨x0, rfl⟩ := Int.eq_ofNat_of_zero_le c2.1.1.1
        obtain ⟨y0, rfl⟩ := Int.eq_ofNat_of_zero_le c2.1.2.1
        obtain ⟨x1, rfl⟩ := Int.eq_ofNat_of_zero_le c2.2.1.1
        obtain ⟨y1, rfl⟩ := Int.eq_ofNat_of_zero_le c2.2.2.1
        have k1 : x0 < 24 := by omega
        have k2 : y0 < 24 := by omega
        have k3 : x1 < 24 := by omega
        have k4 : y1 < 24 := by omega
        have t1 : (mg S s y0).testBit x0 = true := by rw [← gc_nat]; exact c3.1
        have t2 : (mg S s y1).testBit x1 = true := by rw [← gc_nat]; exact c3.2
        have kA : 24 * y0 + x0 < 576 := by omega
        have kB : 24 * y1 + x1 < 576 := by omega
        by_cases c4 : ∃ m, lv (mg S s) (24 * y0 + x0) m (24 * y1 + x1)
        · refine StepI_r hP (P1 := fun z => ∃ n : Nat, z = ((n : Nat) : Int) ∧ n ≤ 2400 ∧ dst (mg S s) (24 * y0 + x0) n (24 * y1 + x1)) (P3 := fun z => ∃ v : Nat, z = ((v : Nat) : Int) ∧ dst (mg S s) (24 * y0 + x0) v (24 * y1 + x1)) (by decide +kernel) (by decide +kernel) (by decide) ?_ (met_X0_steps l b oL _ hBo _ _ _ _ _ _ _ _ (fun z H1 => (∃ n : Nat, z = ((n : Nat) : Int) ∧ n ≤ 2400 ∧ dst (mg S s) (24 * y0 + x0) n (24 * y1 + x1)) ∧ pb_F (fun q => q < H.size) H H1) g6 (by decide) (met_X1_steps l b sl pv V _ (mg S) hS s hs x0 y0 x1 y1 k1 k2 k3 k4 c3.1 c3.2 c4) (fun z H1 hz => ⟨(hP.k1 hz.2).1, (hP.k1 hz.2).2, by obtain ⟨n, e1, e2, -⟩ := hz.1; omega⟩) h6 h8) (fun H2 hM => way_ok hgs kA kB c4 (met_X3_steps l o S hM s hs h2 x0 y0 x1 y1 k1 k2 k3 k4 t1 t2))
          rintro z z' ⟨n, e1, e2, e3⟩ ⟨v, e4, e5⟩
          have e6 := dst_u e3 e5
          exact ⟨by omega, by omega, fun h => by cases h⟩
        · exact StepI_x hI (by decide +kernel) (by decide +kernel) (by decide) (by decide) (mex_X0_steps_3 l b oL _ hBo _ _ _ _ _ _ _ _ (by decide) (mex_X1_steps_4 l hlx b sl pv V _ (mg S) hS s hs x0 y0 x1 y1 k1 k2 k3 k4 c3.1 c3.2 c4)) (fun H2 hM => way_no hgs kA kB c4 (met_X3_steps l o S hM s hs h2 x0 y0 x1 y1 k1 k2 k3 k4 t1 t2))
      · exact StepI_x hI (by decide +kernel) (by decide +kernel) (by decide) (by decide) (mex_X0_steps_3 l b oL _ hBo _ _ _ _ _ _ _ _ (by decide) (mex_X1_steps_3 l hlx b sl pv V _ (mg S) hS s hs a2 a3 a4 a5 c2 c3)) (fun H2 hM => fx_ok (met_X3_steps_3 l o S hM s hs h2 a2 a3 a4 a5 ra2 ra3 ra4 ra5 c2 c3))
    · exact StepI_x hI (by decide +kernel) (by decide +kernel) (by decide) (by decide) (mex_X0_steps_2 l b oL _ hBo _ _ _ _ _ _ _ _ (by decide) (mex_X1_steps_2 l hlx b sl pv V _ (mg S) hS s hs a2 a3 a4 a5 ra2 ra3 ra4 ra5 c2)) (fun H2 hM => fx_ok (met_X3_steps_2 l o S hM s hs a2 a3 a4 a5 ra2 ra3 ra4 ra5 c2))
  · exact StepI_x hI (by decide +kernel) (by decide +kernel) (by decide) (by decide) (mex_X0_steps_1 l b oL _ hBo _ _ _ _ _ _ _ _ (by decide) (mex_X1_steps_1 l hlx b _ hBo a1 ra1 c1 a2 a3 a4 a5)) (fun H2 hM => fx_ok (met_X3_steps_1 l o S hM a1 ra1 c1 a2 a3 a4 a5 ra2 ra3 ra4 ra5))
set_option maxHeartbeats 1000000 in
theorem stp_stepsByRows {w : pb_W} (l : Launch) (hlx : l.stackTraces = false) {H : Heap} {b sl o oL oD : Nat} {S : mS} (hI : LWI w H b sl o oL oD S) (a1 : Int) (ra1 : -2147483648 ≤ a1 ∧ a1 ≤ 2147483647) (a2 : Int) (ra2 : -2147483648 ≤ a2 ∧ a2 ≤ 2147483647) (a3 : Int) (ra3 : -2147483648 ≤ a3 ∧ a3 ≤ 2147483647) (a4 : Int) (ra4 : -2147483648 ≤ a4 ∧ a4 ≤ 2147483647) (a5 : Int) (ra5 : -2147483648 ≤ a5 ∧ a5 ≤ 2147483647) : StepI w l yX0_stepsByRows cX0_stepsByRows 8 [(0, 16, 19, 13), (0, 16, 23, 15), (0, 16, 27, 64)] yX3_stepsByRows cX3_stepsByRows 6 .int  [.ref b, .int (iZ (a1)), .int (iZ (a2)), .int (iZ (a3)), .int (iZ (a4)), .int (iZ (a5)), .ref oL] [.ref o, .int (iZ (a1)), .int (iZ (a2)), .int (iZ (a3)), .int (iZ (a4)), .int (iZ (a5))] H b sl o oL oD := by
  obtain ⟨M, e, V, G, pv, hP⟩ := id hI
  have hP := hP.g
  obtain ⟨h1, h2, h3, h4, h5, ⟨g6, h6⟩, ⟨g7, h7⟩, h8, h9, -⟩ := id hP
  have hS := h3.sq
  have hBo := h3.1.r
  by_cases c1 : 0 ≤ a1 ∧ a1 ≤ 7
  · obtain ⟨s, rfl, hs⟩ := sh_nat c1
    have hgs : gok (mg S s) := mg_ok h2 hs
    by_cases c2 : ((0 ≤ a2 ∧ a2 ≤ 23) ∧ 0 ≤ a3 ∧ a3 ≤ 23) ∧ (0 ≤ a4 ∧ a4 ≤ 23) ∧ 0 ≤ a5 ∧ a5 ≤ 23
    · by_cases c3 : gc (mg S s) a2 a3 = true ∧ gc (mg S s) a4 a5 = true
      · obtain ⟨x0, rfl⟩ := Int.eq_ofNat_of_zero_le c2.1.1.1
        obtain ⟨y0, rfl⟩ := Int.eq_ofNat_of_zero_le c2.1.2.1
        obtain ⟨x1, rfl⟩ := Int.eq_ofNat_of_zero_le c2.2.1.1
        obtain ⟨y1, rfl⟩ := Int.eq_ofNat_of_zero_le c2.2.2.1
        have k1 : x0 < 24 := by omega
        have k2 : y0 < 24 := by omega
        have k3 : x1 < 24 := by omega
        have k4 : y1 < 24 := by omega
        have t1 : (mg S s y0).testBit x0 = true := by rw [← gc_nat]; exact c3.1
        have t2 : (mg S s y1).testBit x1 = true := by rw [← gc_nat]; exact c3.2
        have kA : 24 * y0 + x0 < 576 := by omega
        have kB : 24 * y1 + x1 < 576 := by omega
        by_cases c4 : ∃ m, lv (mg S s) (24 * y0 + x0) m (24 * y1 + x1)
        · refine StepI_r hP (P1 := fun z => ∃ n : Nat, z = ((n : Nat) : Int) ∧ n ≤ 2400 ∧ dst (mg S s) (24 * y0 + x0) n (24 * y1 + x1)) (P3 := fun z => ∃ v : Nat, z = ((v : Nat) : Int) ∧ dst (mg S s) (24 * y0 + x0) v (24 * y1 + x1)) (by decide +kernel) (by decide +kernel) (by decide) ?_ (met_X0_stepsByRows l b oL _ hBo _ _ _ _ _ _ _ _ (fun z H1 => (∃ n : Nat, z = ((n : Nat) : Int) ∧ n ≤ 2400 ∧ dst (mg S s) (24 * y0 + x0) n (24 * y1 + x1)) ∧ pb_F (fun q => q < H.size) H H1) g6 (by decide) (met_X1_stepsByRows l b sl pv V _ (mg S) hS s hs x0 y0 x1 y1 k1 k2 k3 k4 c3.1 c3.2 c4) (fun z H1 hz => ⟨(hP.k1 hz.2).1, (hP.k1 hz.2).2, by obtain ⟨n, e1, e2, -⟩ := hz.1; omega⟩) h6 h8) (fun H2 hM => way_ok hgs kA kB c4 (met_X3_stepsByRows l o S hM s hs h2 x0 y0 x1 y1 k1 k2 k3 k4 t1 t2))
          rintro z z' ⟨n, e1, e2, e3⟩ ⟨v, e4, e5⟩
          have e6 := dst_u e3 e5
          exact ⟨by omega, by omega, fun h => by cases h⟩
        · exact StepI_x hI (by decide +kernel) (by decide +kernel) (by decide) (by decide) (mex_X0_stepsByRows_3 l b oL _ hBo _ _ _ _ _ _ _ _ (by decide) (mex_X1_stepsByRows_4 l hlx b sl pv V _ (mg S) hS s hs x0 y0 x1 y1 k1 k2 k3 k4 c3.1 c3.2 c4)) (fun H2 hM => way_no hgs kA kB c4 (met_X3_stepsByRows l o S hM s hs h2 x0 y0 x1 y1 k1 k2 k3 k4 t1 t2))
      · exact StepI_x hI (by decide +kernel) (by decide +kernel) (by decide) (by decide) (mex_X0_stepsByRows_3 l b oL _ hBo _ _ _ _ _ _ _ _ (by decide) (mex_X1_stepsByRows_3 l hlx b sl pv V _ (mg S) hS s hs a2 a3 a4 a5 c2 c3)) (fun H2 hM => fx_ok (met_X3_stepsByRows_3 l o S hM s hs h2 a2 a3 a4 a5 ra2 ra3 ra4 ra5 c2 c3))
    · exact StepI_x hI (by decide +kernel) (by decide +kernel) (by decide) (by decide) (mex_X0_stepsByRows_2 l b oL _ hBo _ _ _ _ _ _ _ _ (by decide) (mex_X1_stepsByRows_2 l hlx b sl pv V _ (mg S) hS s hs a2 a3 a4 a5 ra2 ra3 ra4 ra5 c2)) (fun H2 hM => fx_ok (met_X3_stepsByRows_2 l o S hM s hs a2 a3 a4 a5 ra2 ra3 ra4 ra5 c2))
  · exact StepI_x hI (by decide +kernel) (by decide +kernel) (by decide) (by decide) (mex_X0_stepsByRows_1 l b oL _ hBo _ _ _ _ _ _ _ _ (by decide) (mex_X1_stepsByRows_1 l hlx b _ hBo a1 ra1 c1 a2 a3 a4 a5)) (fun H2 hM => fx_ok (met_X3_stepsByRows_1 l o S hM a1 ra1 c1 a2 a3 a4 a5 ra2 ra3 ra4 ra5))
