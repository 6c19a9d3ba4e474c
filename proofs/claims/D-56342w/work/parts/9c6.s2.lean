set_option maxRecDepth 100000
theorem fp_d0 : vf_n64 FP.dconst0 := by unfold vf_n64; decide +kernel
theorem fp_f0 : vf_n64 (FP.f2d FP.fconst0) := by unfold vf_n64; decide +kernel
set_option maxHeartbeats 1000000 in
theorem stp_fill {w : pb_W} (l : Launch) (hlx : l.stackTraces = false) {H : Heap} {b sl o oL oD : Nat} {S : mS} (hI : LWI w H b sl o oL oD S) (a1 : Int) (ra1 : -2147483648 ≤ a1 ∧ a1 ≤ 2147483647) (a2 : Int) (ra2 : -2147483648 ≤ a2 ∧ a2 ≤ 2147483647) (a3 : Int) (ra3 : -2147483648 ≤ a3 ∧ a3 ≤ 2147483647) (a4 : Int) (ra4 : -2147483648 ≤ a4 ∧ a4 ≤ 2147483647) (a5 : Int) (ra5 : -2147483648 ≤ a5 ∧ a5 ≤ 2147483647) : StepI w l yX0_fill cX0_fill 8 [(0, 16, 19, 13), (0, 16, 23, 15)] yX3_fill cX3_fill 8 .int  [.ref b, .int (iZ (a1)), .int (iZ (a2)), .int (iZ (a3)), .int (iZ (a4)), .int (iZ (a5)), .ref oL] [.ref o, .int (iZ (a1)), .int (iZ (a2)), .int (iZ (a3)), .int (iZ (a4)), .int (iZ (a5))] H b sl o oL oD := by
  obtain ⟨M, e, V, G, pv, hP⟩ := id hI
  have hP := hP.g
  obtain ⟨h1, h2, h3, h4, h5, ⟨g6, h6⟩, ⟨g7, h7⟩, h8, h9, -⟩ := id hP
  have hS := h3.sq
  have hBo := h3.1.r
  by_cases c1 : 0 ≤ a1 ∧ a1 ≤ 7
  · obtain ⟨t, rfl, ht⟩ := sh_nat c1
    have hgs : gok (mg S t) := mg_ok h2 ht
    by_cases c2 : (0 ≤ a2 ∧ 0 ≤ a3) ∧ (a4 ≤ 24 ∧ a5 ≤ 24) ∧ a2 < a4 ∧ a3 < a5
    · obtain ⟨a, rfl⟩ := Int.eq_ofNat_of_zero_le c2.1.1
      obtain ⟨p, rfl⟩ := Int.eq_ofNat_of_zero_le c2.1.2
      obtain ⟨c, rfl⟩ := Int.eq_ofNat_of_zero_le (show 0 ≤ a4 from by omega)
      obtain ⟨d, rfl⟩ := Int.eq_ofNat_of_zero_le (show 0 ≤ a5 from by omega)
      have k1 : a < c := by omega
      have k2 : p < d := by omega
      have k3 : c ≤ 24 := by omega
      have k4 : d ≤ 24 := by omega
      obtain ⟨T, hT⟩ : ∃ T : Int → Int → Bool, T = fun x y => opk 0 (gc (mg S t) x y) (gc (bxg a p c d) x y) := ⟨_, rfl⟩
      have hbx : ∀ x y, T x y = true → (0 ≤ x ∧ x ≤ 23) ∧ 0 ≤ y ∧ y ≤ 23 := by
        intro x y h
        rw [hT] at h
        exact opk_box hgs (bxg_ok k3 k4) x y h
      have he9 : ∀ x y, gc (grd T) x y = (fun x y => opk 0 (gc (mg S t) x y) (gc (bxg a p c d) x y)) x y := fun x y => by rw [grd_gc hbx x y, hT]
      refine StepI_w hP ht (grd_ok T) (v := ((cnt (grd T) : Nat) : Int) - ((cnt (mg S t) : Nat) : Int)) (by decide +kernel) (by decide +kernel) (by decide) (rg2 _ _ (cnt_le _) (cnt_le _)) (fun h => by cases h) (met_X0_fill l b oL _ hBo _ _ _ _ _ _ _ _ (fun z H1 => z = ((cnt (grd T) : Nat) : Int) - ((cnt (mg S t) : Nat) : Int) ∧ (∃ r, BP w H1 M b sl e pv (V.set t r) (gup (mg S) t (grd T))) ∧ pb_F (fun q => q < H.size ∧ q ≠ e) H H1) g6 (by decide) (met_X1_fill l M b sl e pv V (mg S) h3 hP.new t ht (grd T) (grd_ok T) a p c d k1 k2 k3 k4 he9) (fun z H1 hz => ⟨(hP.k2 hz.2.2).1, (hP.k2 hz.2.2).2, by rw [hz.1]; exact rg2 _ _ (cnt_le _) (cnt_le _)⟩) h6 h8) (fun H2 hM => wr_ok (met_X3_fill l o S hM t ht h2 a p c d k1 k2 k3 k4) (fun e9 => by rw [e9]) ⟨rfl, rfl, rfl⟩ ?_ rfl)
      refine mg_new (S := S) (lo := p) (hi := d) (φ := fun y => S.2.1 0 (24 * t + y) ||| rngm a c) rfl h2 ht k4 rfl (fun j hj => ?_) (fun i j hi9 hj => ?_)
      · rw [mg_at hj]
        exact gop_lt (way := 1) (hgs.1 j) (rngm_lt k3)
      · rw [hT]
        show _ = opk 0 (gc (mg S t) _ _) (gc (bxg a p c d) _ _)
        rw [gc_nat, gc_nat]
        unfold bxg
        by_cases c9 : p ≤ j ∧ j < d
        · rw [if_pos c9, if_pos c9, mg_at hj]
          exact gop_bit (k := 0) (by decide) (mg S t j) (rngm a c) i
        · rw [if_neg c9, if_neg c9, Nat.zero_testBit]
          cases (mg S t j).testBit i <;> rfl
    · exact StepI_x hI (by decide +kernel) (by decide +kernel) (by decide) (by decide) (mex_X0_fill_2 l b oL _ hBo _ _ _ _ _ _ _ _ (by decide) (mex_X1_fill_2 l hlx b sl pv V _ (mg S) hS t ht a2 a3 a4 a5 ra2 ra3 ra4 ra5 c2)) (fun H2 hM => fx_ok (met_X3_fill_2 l o S hM t ht a2 a3 a4 a5 ra2 ra3 ra4 ra5 (fun h => c2 ⟨⟨h.1, h.2.1⟩, ⟨h.2.2.1, h.2.2.2.1⟩, h.2.2.2.2⟩)))
  · exact StepI_x hI (by decide +kernel) (by decide +kernel) (by decide) (by decide) (mex_X0_fill_1 l b oL _ hBo _ _ _ _ _ _ _ _ (by decide) (mex_X1_fill_1 l hlx b _ hBo a1 ra1 c1 a2 a3 a4 a5)) (fun H2 hM => fx_ok (met_X3_fill_1 l o S hM a1 ra1 c1 a2 a3 a4 a5 ra2 ra3 ra4 ra5))
set_option maxHeartbeats 1000000 in
theorem stp_erase {w : pb_W} (l : Launch) (hlx : l.stackTraces = false) {H : Heap} {b sl o oL oD : Nat} {S : mS} (hI : LWI w H b sl o oL oD S) (a1 : Int) (ra1 : -2147483648 ≤ a1 ∧ a1 ≤ 2147483647) (a2 : Int) (ra2 : -2147483648 ≤ a2 ∧ a2 ≤ 2147483647) (a3 : Int) (ra3 : -2147483648 ≤ a3 ∧ a3 ≤ 2147483647) (a4 : Int) (ra4 : -2147483648 ≤ a4 ∧ a4 ≤ 2147483647) (a5 : Int) (ra5 : -2147483648 ≤ a5 ∧ a5 ≤ 2147483647) : StepI w l yX0_erase cX0_erase 8 [(0, 16, 19, 13), (0, 16, 23, 15)] yX3_erase cX3_erase 8 .int  [.ref b, .int (iZ (a1)), .int (iZ (a2)), .int (iZ (a3)), .int (iZ (a4)), .int (iZ (a5)), .ref oL] [.ref o, .int (iZ (a1)), .int (iZ (a2)), .int (iZ (a3)), .int (iZ (a4)), .int (iZ (a5))] H b sl o oL oD := by
  obtain ⟨M, e, V, G, pv, hP⟩ := id hI
  have hP := hP.g
  obtain ⟨h1, h2, h3, h4, h5, ⟨g6, h6⟩, ⟨g7, h7⟩, h8, h9, -⟩ := id hP
  have hS := h3.sq
  have hBo := h3.1.r
  by_cases c1 : 0 ≤ a1 ∧ a1 ≤ 7
  · obtain ⟨t, rfl, ht⟩ := sh_nat c1
    have hgs : gok (mg S t) := mg_ok h2 ht
    by_cases c2 : (0 ≤ a2 ∧ 0 ≤ a3) ∧ (a4 ≤ 24 ∧ a5 ≤ 24) ∧ a2 < a4 ∧ a3 < a5
    · obtain ⟨a, rfl⟩ := Int.eq_ofNat_of_zero_le c2.1.1
      obtain ⟨p, rfl⟩ := Int.eq_ofNat_of_zero_le c2.1.2
      obtain ⟨c, rfl⟩ := Int.eq_ofNat_of_zero_le (show 0 ≤ a4 from by omega)
      obtain ⟨d, rfl⟩ := Int.eq_ofNat_of_zero_le (show 0 ≤ a5 from by omega)
      have k1 : a < c := by omega
      have k2 : p < d := by omega
      have k3 : c ≤ 24 := by omega
      have k4 : d ≤ 24 := by omega
      obtain ⟨T, hT⟩ : ∃ T : Int → Int → Bool, T = fun x y => opk 2 (gc (mg S t) x y) (gc (bxg a p c d) x y) := ⟨_, rfl⟩
      have hbx : ∀ x y, T x y = true → (0 ≤ x ∧ x ≤ 23) ∧ 0 ≤ y ∧ y ≤ 23 := by
        intro x y h
        rw [hT] at h
        exact opk_box hgs (bxg_ok k3 k4) x y h
      have he9 : ∀ x y, gc (grd T) x y = (fun x y => opk 2 (gc (mg S t) x y) (gc (bxg a p c d) x y)) x y := fun x y => by rw [grd_gc hbx x y, hT]
      refine StepI_w hP ht (grd_ok T) (v := ((cnt (mg S t) : Nat) : Int) - ((cnt (grd T) : Nat) : Int)) (by decide +kernel) (by decide +kernel) (by decide) (rg2 _ _ (cnt_le _) (cnt_le _)) (fun h => by cases h) (met_X0_erase l b oL _ hBo _ _ _ _ _ _ _ _ (fun z H1 => z = ((cnt (mg S t) : Nat) : Int) - ((cnt (grd T) : Nat) : Int) ∧ (∃ r, BP w H1 M b sl e pv (V.set t r) (gup (mg S) t (grd T))) ∧ pb_F (fun q => q < H.size ∧ q ≠ e) H H1) g6 (by decide) (met_X1_erase l M b sl e pv V (mg S) h3 hP.new t ht (grd T) (grd_ok T) a p c d k1 k2 k3 k4 he9) (fun z H1 hz => ⟨(hP.k2 hz.2.2).1, (hP.k2 hz.2.2).2, by rw [hz.1]; exact rg2 _ _ (cnt_le _) (cnt_le _)⟩) h6 h8) (fun H2 hM => wr_ok (met_X3_erase l o S hM t ht h2 a p c d k1 k2 k3 k4) (fun e9 => by rw [e9]) ⟨rfl, rfl, rfl⟩ ?_ rfl)
      refine mg_new (S := S) (lo := p) (hi := d) (φ := fun y => pb_dif (S.2.1 0 (24 * t + y)) (rngm a c)) rfl h2 ht k4 rfl (fun j hj => ?_) (fun i j hi9 hj => ?_)
      · rw [mg_at hj]
        exact gop_lt (way := 3) (hgs.1 j) (rngm_lt k3)
      · rw [hT]
        show _ = opk 2 (gc (mg S t) _ _) (gc (bxg a p c d) _ _)
        rw [gc_nat, gc_nat]
        unfold bxg
        by_cases c9 : p ≤ j ∧ j < d
        · rw [if_pos c9, if_pos c9, mg_at hj]
          exact gop_bit (k := 2) (by decide) (mg S t j) (rngm a c) i
        · rw [if_neg c9, if_neg c9, Nat.zero_testBit]
          cases (mg S t j).testBit i <;> rfl
    · exact StepI_x hI (by decide +kernel) (by decide +kernel) (by decide) (by decide) (mex_X0_erase_2 l b oL _ hBo _ _ _ _ _ _ _ _ (by decide) (mex_X1_erase_2 l hlx b sl pv V _ (mg S) hS t ht a2 a3 a4 a5 ra2 ra3 ra4 ra5 c2)) (fun H2 hM => fx_ok (met_X3_erase_2 l o S hM t ht a2 a3 a4 a5 ra2 ra3 ra4 ra5 (fun h => c2 ⟨⟨h.1, h.2.1⟩, ⟨h.2.2.1, h.2.2.2.1⟩, h.2.2.2.2⟩)))
  · exact StepI_x hI (by decide +kernel) (by decide +kernel) (by decide) (by decide) (mex_X0_erase_1 l b oL _ hBo _ _ _ _ _ _ _ _ (by decide) (mex_X1_erase_1 l hlx b _ hBo a1 ra1 c1 a2 a3 a4 a5)) (fun H2 hM => fx_ok (met_X3_erase_1 l o S hM a1 ra1 c1 a2 a3 a4 a5 ra2 ra3 ra4 ra5))
set_option maxHeartbeats 1000000 in
theorem stp_clear {w : pb_W} (l : Launch) (hlx : l.stackTraces = false) {H : Heap} {b sl o oL oD : Nat} {S : mS} (hI : LWI w H b sl o oL oD S) (a1 : Int) (ra1 : -2147483648 ≤ a1 ∧ a1 ≤ 2147483647) : StepI w l yX0_clear cX0_clear 4 [(0, 9, 12, 13)] yX3_clear cX3_clear 4 .int  [.ref b, .int (iZ (a1)), .ref oL] [.ref o, .int (iZ (a1))] H b sl o oL oD := by
  obtain ⟨M, e, V, G, pv, hP⟩ := id hI
  have hP := hP.g
  obtain ⟨h1, h2, h3, h4, h5, ⟨g6, h6⟩, ⟨g7, h7⟩, h8, h9, -⟩ := id hP
  have hS := h3.sq
  have hBo := h3.1.r
  by_cases c1 : 0 ≤ a1 ∧ a1 ≤ 7
  · obtain ⟨t, rfl, ht⟩ := sh_nat c1
    have hgs : gok (mg S t) := mg_ok h2 ht
    refine StepI_w hP ht gok_0 (v := ((cnt (mg S t) : Nat) : Int)) (by decide +kernel) (by decide +kernel) (by decide) (rg1 _ (cnt_le _)) (fun h => by cases h) (met_X0_clear l b oL _ hBo _ _ _ _ (fun z H1 => z = ((cnt (mg S t) : Nat) : Int) ∧ (∃ r, BP w H1 M b sl e pv (V.set t r) (gup (mg S) t (fun _ => 0))) ∧ pb_F (fun q => q < H.size ∧ q ≠ e) H H1) g6 (by decide) (met_X1_clear l M b sl e pv V (mg S) h3 hP.new t ht) (fun z H1 hz => ⟨(hP.k2 hz.2.2).1, (hP.k2 hz.2.2).2, by rw [hz.1]; exact rg1 _ (cnt_le _)⟩) h6 h8) (fun H2 hM => wr_ok (met_X3_clear l o S hM t ht h2) (fun _ => rfl) ⟨rfl, rfl, rfl⟩ ?_ rfl)
    have hz0 : (fun _ => 0 : Nat → Nat) = grd (fun _ _ => false) := grd_eq (fun _ _ => by decide) (fun _ _ => rfl) (fun i j _ _ => Nat.zero_testBit i)
    rw [hz0]
    exact mg_new (S := S) (lo := 0) (hi := 24) rfl h2 ht (Nat.le_refl 24) rfl (fun j hj => by rw [← hz0]; show 0 < 16777216; decide) (fun i j hi9 hj => by rw [if_pos ⟨Nat.zero_le _, hj⟩, ← hz0]; exact Nat.zero_testBit i)
  · exact StepI_x hI (by decide +kernel) (by decide +kernel) (by decide) (by decide) (mex_X0_clear_1 l b oL _ hBo _ _ _ _ (by decide) (mex_X1_clear_1 l hlx b _ hBo a1 ra1 c1)) (fun H2 hM => fx_ok (met_X3_clear_1 l o S hM a1 ra1 c1))
set_option maxHeartbeats 1000000 in
theorem stp_turn {w : pb_W} (l : Launch) (hlx : l.stackTraces = false) {H : Heap} {b sl o oL oD : Nat} {S : mS} (hI : LWI w H b sl o oL oD S) (a1 : Int) (ra1 : -2147483648 ≤ a1 ∧ a1 ≤ 2147483647) (a2 : Int) (ra2 : -2147483648 ≤ a2 ∧ a2 ≤ 2147483647) : StepI w l yX0_turn cX0_turn 5 [(0, 10, 13, 13)] yX3_turn cX3_turn 5 .int  [.ref b, .int (iZ (a1)), .int (iZ (a2)), .ref oL] [.ref o, .int (iZ (a1)), .int (iZ (a2))] H b sl o oL oD := by
  obtain ⟨M, e, V, G, pv, hP⟩ := id hI
  have hP := hP.g
  obtain ⟨h1, h2, h3, h4, h5, ⟨g6, h6⟩, ⟨g7, h7⟩, h8, h9, -⟩ := id hP
  have hS := h3.sq
  have hBo := h3.1.r
  by_cases c1 : (0 ≤ a1 ∧ a1 ≤ 7) ∧ 0 ≤ a2 ∧ a2 ≤ 7
  · obtain ⟨s, rfl, hs⟩ := sh_nat c1.1
    obtain ⟨t, rfl, ht⟩ := sh_nat c1.2
    have hgs : gok (mg S s) := mg_ok h2 hs
    have hgt : gok (mg S t) := mg_ok h2 ht
    obtain ⟨T, hT⟩ : ∃ T : Int → Int → Bool, T = fun x y => gc (mg S s) y (23 - x) := ⟨_, rfl⟩
    have hbx : ∀ x y, T x y = true → (0 ≤ x ∧ x ≤ 23) ∧ 0 ≤ y ∧ y ≤ 23 := by
      intro x y h
      rw [hT] at h
      have := gc_in hgs h; omega
    have he9 : ∀ x y, gc (grd T) x y = (fun x y => gc (mg S s) y (23 - x)) x y := fun x y => by rw [grd_gc hbx x y, hT]
    refine StepI_w hP ht (grd_ok T) (v := ((cnt (grd T) : Nat) : Int)) (by decide +kernel) (by decide +kernel) (by decide) (rg1 _ (cnt_le _)) (fun h => by cases h) (met_X0_turn l b oL _ hBo _ _ _ _ _ (fun z H1 => z = ((cnt (grd T) : Nat) : Int) ∧ (∃ r, BP w H1 M b sl e pv (V.set t r) (gup (mg S) t (grd T))) ∧ pb_F (fun q => q < H.size ∧ q ≠ e) H H1) g6 (by decide) (met_X1_turn l M b sl e pv V (mg S) h3 hP.new s hs t ht (grd T) (grd_ok T) he9) (fun z H1 hz => ⟨(hP.k2 hz.2.2).1, (hP.k2 hz.2.2).2, by rw [hz.1]; exact rg1 _ (cnt_le _)⟩) h6 h8) (fun H2 hM => wr_ok (met_X3_turn l o S hM s t hs ht h2) (fun e9 => by rw [e9]) ⟨rfl, rfl, rfl⟩ ?_ rfl)
    refine mg_new (S := S) (lo := 0) (hi := 24) rfl h2 ht (Nat.le_refl 24) rfl (fun j hj => ?_) (fun i j hi9 hj => ?_)
    · rw [mdF_at hj]; exact msk_lt24 _
    · rw [hT, if_pos ⟨Nat.zero_le _, hj⟩, mdF_at hj, msk_bit, decide_eq_true hi9, Bool.true_and]
  · exact StepI_x hI (by decide +kernel) (by decide +kernel) (by decide) (by decide) (mex_X0_turn_1 l b oL _ hBo _ _ _ _ _ (by decide) (mex_X1_turn_1 l hlx b sl pv V _ (mg S) hS a1 a2 ra1 ra2 c1)) (fun H2 hM => fx_ok (met_X3_turn_1 l o S hM a1 a2 ra1 ra2 c1))
set_option maxHeartbeats 1000000 in
theorem stp_mirror {w : pb_W} (l : Launch) (hlx : l.stackTraces = false) {H : Heap} {b sl o oL oD : Nat} {S : mS} (hI : LWI w H b sl o oL oD S) (a1 : Int) (ra1 : -2147483648 ≤ a1 ∧ a1 ≤ 2147483647) (a2 : Int) (ra2 : -2147483648 ≤ a2 ∧ a2 ≤ 2147483647) : StepI w l yX0_mirror cX0_mirror 5 [(0, 10, 13, 13)] yX3_mirror cX3_mirror 5 .int  [.ref b, .int (iZ (a1)), .int (iZ (a2)), .ref oL] [.ref o, .int (iZ (a1)), .int (iZ (a2))] H b sl o oL oD := by
  obtain ⟨M, e, V, G, pv, hP⟩ := id hI
  have hP := hP.g
  obtain ⟨h1, h2, h3, h4, h5, ⟨g6, h6⟩, ⟨g7, h7⟩, h8, h9, -⟩ := id hP
  have hS := h3.sq
  have hBo := h3.1.r
  by_cases c1 : (0 ≤ a1 ∧ a1 ≤ 7) ∧ 0 ≤ a2 ∧ a2 ≤ 7
  · obtain ⟨s, rfl, hs⟩ := sh_nat c1.1
    obtain ⟨t, rfl, ht⟩ := sh_nat c1.2
    have hgs : gok (mg S s) := mg_ok h2 hs
    have hgt : gok (mg S t) := mg_ok h2 ht
    obtain ⟨T, hT⟩ : ∃ T : Int → Int → Bool, T = fun x y => gc (mg S s) (23 - x) y := ⟨_, rfl⟩
    have hbx : ∀ x y, T x y = true → (0 ≤ x ∧ x ≤ 23) ∧ 0 ≤ y ∧ y ≤ 23 := by
      intro x y h
      rw [hT] at h
      have := gc_in hgs h; omega
    have he9 : ∀ x y, gc (grd T) x y = (fun x y => gc (mg S s) (23 - x) y) x y := fun x y => by rw [grd_gc hbx x y, hT]
    refine StepI_w hP ht (grd_ok T) (v := ((cnt (grd T) : Nat) : Int)) (by decide +kernel) (by decide +kernel) (by decide) (rg1 _ (cnt_le _)) (fun h => by cases h) (met_X0_mirror l b oL _ hBo _ _ _ _ _ (fun z H1 => z = ((cnt (grd T) : Nat) : Int) ∧ (∃ r, BP w H1 M b sl e pv (V.set t r) (gup (mg S) t (grd T))) ∧ pb_F (fun q => q < H.size ∧ q ≠ e) H H1) g6 (by decide) (met_X1_mirror l M b sl e pv V (mg S) h3 hP.new s hs t ht (grd T) (grd_ok T) he9) (fun z H1 hz => ⟨(hP.k2 hz.2.2).1, (hP.k2 hz.2.2).2, by rw [hz.1]; exact rg1 _ (cnt_le _)⟩) h6 h8) (fun H2 hM => wr_ok (met_X3_mirror l o S hM s t hs ht h2) (fun e9 => by rw [e9]) ⟨rfl, rfl, rfl⟩ ?_ rfl)
    refine mg_new (S := S) (lo := 0) (hi := 24) rfl h2 ht (Nat.le_refl 24) rfl (fun j hj => ?_) (fun i j hi9 hj => ?_)
    · rw [mdF_at hj]; exact msk_lt24 _
    · rw [hT, if_pos ⟨Nat.zero_le _, hj⟩, mdF_at hj, msk_bit, decide_eq_true hi9, Bool.true_and]
  · exact StepI_x hI (by decide +kernel) (by decide +kernel) (by decide) (by decide) (mex_X0_mirror_1 l b oL _ hBo _ _ _ _ _ (by decide) (mex_X1_mirror_1 l hlx b sl pv V _ (mg S) hS a1 a2 ra1 ra2 c1)) (fun H2 hM => fx_ok (met_X3_mirror_1 l o S hM a1 a2 ra1 ra2 c1))
set_option maxHeartbeats 1000000 in
theorem stp_move {w : pb_W} (l : Launch) (hlx : l.stackTraces = false) {H : Heap} {b sl o oL oD : Nat} {S : mS} (hI : LWI w H b sl o oL oD S) (a1 : Int) (ra1 : -2147483648 ≤ a1 ∧ a1 ≤ 2147483647) (a2 : Int) (ra2 : -2147483648 ≤ a2 ∧ a2 ≤ 2147483647) (a3 : Int) (ra3 : -2147483648 ≤ a3 ∧ a3 ≤ 2147483647) (a4 : Int) (ra4 : -2147483648 ≤ a4 ∧ a4 ≤ 2147483647) : StepI w l yX0_move cX0_move 7 [(0, 14, 17, 13), (0, 14, 21, 15)] yX3_move cX3_move 7 .int  [.ref b, .int (iZ (a1)), .int (iZ (a2)), .int (iZ (a3)), .int (iZ (a4)), .ref oL] [.ref o, .int (iZ (a1)), .int (iZ (a2)), .int (iZ (a3)), .int (iZ (a4))] H b sl o oL oD := by
  obtain ⟨M, e, V, G, pv, hP⟩ := id hI
  have hP := hP.g
  obtain ⟨h1, h2, h3, h4, h5, ⟨g6, h6⟩, ⟨g7, h7⟩, h8, h9, -⟩ := id hP
  have hS := h3.sq
  have hBo := h3.1.r
  by_cases c1 : (0 ≤ a1 ∧ a1 ≤ 7) ∧ 0 ≤ a4 ∧ a4 ≤ 7
  · obtain ⟨s, rfl, hs⟩ := sh_nat c1.1
    obtain ⟨t, rfl, ht⟩ := sh_nat c1.2
    have hgs : gok (mg S s) := mg_ok h2 hs
    have hgt : gok (mg S t) := mg_ok h2 ht
    by_cases c2 : (-24 ≤ a2 ∧ a2 ≤ 24) ∧ -24 ≤ a3 ∧ a3 ≤ 24
    · obtain ⟨T, hT⟩ : ∃ T : Int → Int → Bool, T = fun x y => gc (mg S s) (x - a2) (y - a3) && cb24 x y := ⟨_, rfl⟩
      have hbx : ∀ x y, T x y = true → (0 ≤ x ∧ x ≤ 23) ∧ 0 ≤ y ∧ y ≤ 23 := by
        intro x y h
        rw [hT] at h
        have := cb24_iff.mp (Bool.and_eq_true_iff.mp h).2; omega
      have he9 : ∀ x y, gc (grd T) x y = (fun x y => gc (mg S s) (x - a2) (y - a3) && cb24 x y) x y := fun x y => by rw [grd_gc hbx x y, hT]
      refine StepI_w hP ht (grd_ok T) (v := ((cnt (grd T) : Nat) : Int)) (by decide +kernel) (by decide +kernel) (by decide) (rg1 _ (cnt_le _)) (fun h => by cases h) (met_X0_move l b oL _ hBo _ _ _ _ _ _ _ (fun z H1 => z = ((cnt (grd T) : Nat) : Int) ∧ (∃ r, BP w H1 M b sl e pv (V.set t r) (gup (mg S) t (grd T))) ∧ pb_F (fun q => q < H.size ∧ q ≠ e) H H1) g6 (by decide) (met_X1_move l M b sl e pv V (mg S) h3 hP.new s hs t ht (grd T) (grd_ok T) a2 a3 c2.1 c2.2 he9) (fun z H1 hz => ⟨(hP.k2 hz.2.2).1, (hP.k2 hz.2.2).2, by rw [hz.1]; exact rg1 _ (cnt_le _)⟩) h6 h8) (fun H2 hM => wr_ok (met_X3_move l o S hM s t hs ht h2 a2 a3 c2.1 c2.2) (fun e9 => by rw [e9]) ⟨rfl, rfl, rfl⟩ ?_ rfl)
      refine mg_new (S := S) (lo := 0) (hi := 24) rfl h2 ht (Nat.le_refl 24) rfl (fun j hj => ?_) (fun i j hi9 hj => ?_)
      · rw [mdR_at hj]; exact mvrow_lt hgs _ _ _
      · rw [hT, if_pos ⟨Nat.zero_le _, hj⟩, mdR_at hj]; exact mv_bit hi9 hj
    · exact StepI_x hI (by decide +kernel) (by decide +kernel) (by decide) (by decide) (mex_X0_move_2 l b oL _ hBo _ _ _ _ _ _ _ (by decide) (mex_X1_move_2 l hlx b sl pv V _ (mg S) hS s hs t ht a2 a3 ra2 ra3 c2)) (fun H2 hM => fx_ok (met_X3_move_2 l o S hM _ _ ra1 ra4 a2 a3 ra2 ra3 c1 c2))
  · exact StepI_x hI (by decide +kernel) (by decide +kernel) (by decide) (by decide) (mex_X0_move_1 l b oL _ hBo _ _ _ _ _ _ _ (by decide) (mex_X1_move_1 l hlx b sl pv V _ (mg S) hS a1 a4 ra1 ra4 c1 a2 a3)) (fun H2 hM => fx_ok (met_X3_move_1 l o S hM a1 a4 ra1 ra4 a2 a3 ra2 ra3 c1))
set_option maxHeartbeats 1000000 in
theorem stp_grow {w : pb_W} (l : Launch) (hlx : l.stackTraces = false) {H : Heap} {b sl o oL oD : Nat} {S : mS} (hI : LWI w H b sl o oL oD S) (a1 : Int) (ra1 : -2147483648 ≤ a1 ∧ a1 ≤ 2147483647) (a2 : Int) (ra2 : -2147483648 ≤ a2 ∧ a2 ≤ 2147483647) (a3 : Int) (ra3 : -2147483648 ≤ a3 ∧ a3 ≤ 2147483647) : StepI w l yX0_grow cX0_grow 6 [(0, 12, 15, 13), (0, 12, 19, 15)] yX3_grow cX3_grow 4 .int  [.ref b, .int (iZ (a1)), .int (iZ (a2)), .int (iZ (a3)), .ref oL] [.ref o, .int (iZ (a1)), .int (iZ (a2)), .int (iZ (a3))] H b sl o oL oD := by
  obtain ⟨M, e, V, G, pv, hP⟩ := id hI
  have hP := hP.g
  obtain ⟨h1, h2, h3, h4, h5, ⟨g6, h6⟩, ⟨g7, h7⟩, h8, h9, -⟩ := id hP
  have hS := h3.sq
  have hBo := h3.1.r
  by_cases c1 : (0 ≤ a1 ∧ a1 ≤ 7) ∧ 0 ≤ a3 ∧ a3 ≤ 7
  · obtain ⟨s, rfl, hs⟩ := sh_nat c1.1
    obtain ⟨t, rfl, ht⟩ := sh_nat c1.2
    have hgs : gok (mg S s) := mg_ok h2 hs
    have hgt : gok (mg S t) := mg_ok h2 ht
    by_cases c2 : 0 ≤ a2 ∧ a2 ≤ 8
    · obtain ⟨T, hT⟩ : ∃ T : Int → Int → Bool, T = fun x y => opk 1 (dil (gc (mg S s)) a2 x y) (cb24 x y) := ⟨_, rfl⟩
      have hbx : ∀ x y, T x y = true → (0 ≤ x ∧ x ≤ 23) ∧ 0 ≤ y ∧ y ≤ 23 := by
        intro x y h
        rw [hT] at h
        have := cb24_iff.mp (Bool.and_eq_true_iff.mp (show (dil (gc (mg S s)) a2 x y && cb24 x y) = true from h)).2; omega
      have he9 : ∀ x y, gc (grd T) x y = (fun x y => opk 1 (dil (gc (mg S s)) a2 x y) (cb24 x y)) x y := fun x y => by rw [grd_gc hbx x y, hT]
      refine StepI_w hP ht (grd_ok T) (v := ((cnt (grd T) : Nat) : Int)) (by decide +kernel) (by decide +kernel) (by decide) (rg1 _ (cnt_le _)) (fun h => by cases h) (met_X0_grow l b oL _ hBo _ _ _ _ _ _ (fun z H1 => z = ((cnt (grd T) : Nat) : Int) ∧ (∃ r, BP w H1 M b sl e pv (V.set t r) (gup (mg S) t (grd T))) ∧ pb_F (fun q => q < H.size ∧ q ≠ e) H H1) g6 (by decide) (met_X1_grow l M b sl e pv V (mg S) h3 hP.new s hs t ht (grd T) (grd_ok T) a2 c2 he9) (fun z H1 hz => ⟨(hP.k2 hz.2.2).1, (hP.k2 hz.2.2).2, by rw [hz.1]; exact rg1 _ (cnt_le _)⟩) h6 h8) (fun H2 hM => wr_ok (met_X3_grow l o S hM s t hs ht h2 a2 c2) (fun e9 => by rw [e9]) ⟨rfl, rfl, rfl⟩ ?_ rfl)
      refine mg_new (S := S) (lo := 0) (hi := 24) rfl h2 ht (Nat.le_refl 24) rfl (fun j hj => ?_) (fun i j hi9 hj => ?_)
      · rw [mdF_at hj]; exact msk_lt24 _
      · rw [hT, if_pos ⟨Nat.zero_le _, hj⟩, mdF_at hj, msk_bit, decide_eq_true hi9, Bool.true_and]; exact grow_bit hi9 hj
    · exact StepI_x hI (by decide +kernel) (by decide +kernel) (by decide) (by decide) (mex_X0_grow_2 l b oL _ hBo _ _ _ _ _ _ (by decide) (mex_X1_grow_2 l hlx b sl pv V _ (mg S) hS s hs t ht a2 ra2 c2)) (fun H2 hM => fx_ok (met_X3_grow_2 l o S hM _ _ ra1 ra3 a2 ra2 c1 c2))
  · exact StepI_x hI (by decide +kernel) (by decide +kernel) (by decide) (by decide) (mex_X0_grow_1 l b oL _ hBo _ _ _ _ _ _ (by decide) (mex_X1_grow_1 l hlx b sl pv V _ (mg S) hS a1 a3 ra1 ra3 c1 a2)) (fun H2 hM => fx_ok (met_X3_grow_1 l o S hM a1 a3 ra1 ra3 a2 ra2 c1))
set_option maxHeartbeats 1000000 in
theorem stp_shrink {w : pb_W} (l : Launch) (hlx : l.stackTraces = false) {H : Heap} {b sl o oL oD : Nat} {S : mS} (hI : LWI w H b sl o oL oD S) (a1 : Int) (ra1 : -2147483648 ≤ a1 ∧ a1 ≤ 2147483647) (a2 : Int) (ra2 : -2147483648 ≤ a2 ∧ a2 ≤ 2147483647) (a3 : Int) (ra3 : -2147483648 ≤ a3 ∧ a3 ≤ 2147483647) : StepI w l yX0_shrink cX0_shrink 6 [(0, 12, 15, 13), (0, 12, 19, 15)] yX3_shrink cX3_shrink 4 .int  [.ref b, .int (iZ (a1)), .int (iZ (a2)), .int (iZ (a3)), .ref oL] [.ref o, .int (iZ (a1)), .int (iZ (a2)), .int (iZ (a3))] H b sl o oL oD := by
  obtain ⟨M, e, V, G, pv, hP⟩ := id hI
  have hP := hP.g
  obtain ⟨h1, h2, h3, h4, h5, ⟨g6, h6⟩, ⟨g7, h7⟩, h8, h9, -⟩ := id hP
  have hS := h3.sq
  have hBo := h3.1.r
  by_cases c1 : (0 ≤ a1 ∧ a1 ≤ 7) ∧ 0 ≤ a3 ∧ a3 ≤ 7
  · obtain ⟨s, rfl, hs⟩ := sh_nat c1.1
    obtain ⟨t, rfl, ht⟩ := sh_nat c1.2
    have hgs : gok (mg S s) := mg_ok h2 hs
    have hgt : gok (mg S t) := mg_ok h2 ht
    by_cases c2 : 0 ≤ a2 ∧ a2 ≤ 8
    · obtain ⟨T, hT⟩ : ∃ T : Int → Int → Bool, T = fun x y => opk 2 (gc (mg S s) x y) (dil (fun x y => (opk 2 ((decide (-a2 - 1 ≤ x) && decide (x < 24 + a2 + 1)) && (decide (-a2 - 1 ≤ y) && decide (y < 24 + a2 + 1))) (gc (mg S s) x y))) a2 x y) := ⟨_, rfl⟩
      have hbx : ∀ x y, T x y = true → (0 ≤ x ∧ x ≤ 23) ∧ 0 ≤ y ∧ y ≤ 23 := by
        intro x y h
        rw [hT] at h
        exact gc_in hgs (Bool.and_eq_true_iff.mp (show (gc (mg S s) x y && !dil _ a2 x y) = true from h)).1
      have he9 : ∀ x y, gc (grd T) x y = (fun x y => opk 2 (gc (mg S s) x y) (dil (fun x y => (opk 2 ((decide (-a2 - 1 ≤ x) && decide (x < 24 + a2 + 1)) && (decide (-a2 - 1 ≤ y) && decide (y < 24 + a2 + 1))) (gc (mg S s) x y))) a2 x y)) x y := fun x y => by rw [grd_gc hbx x y, hT]
      refine StepI_w hP ht (grd_ok T) (v := ((cnt (grd T) : Nat) : Int)) (by decide +kernel) (by decide +kernel) (by decide) (rg1 _ (cnt_le _)) (fun h => by cases h) (met_X0_shrink l b oL _ hBo _ _ _ _ _ _ (fun z H1 => z = ((cnt (grd T) : Nat) : Int) ∧ (∃ r, BP w H1 M b sl e pv (V.set t r) (gup (mg S) t (grd T))) ∧ pb_F (fun q => q < H.size ∧ q ≠ e) H H1) g6 (by decide) (met_X1_shrink l M b sl e pv V (mg S) h3 hP.new s hs t ht (grd T) (grd_ok T) a2 c2 he9) (fun z H1 hz => ⟨(hP.k2 hz.2.2).1, (hP.k2 hz.2.2).2, by rw [hz.1]; exact rg1 _ (cnt_le _)⟩) h6 h8) (fun H2 hM => wr_ok (met_X3_shrink l o S hM s t hs ht h2 a2 c2) (fun e9 => by rw [e9]) ⟨rfl, rfl, rfl⟩ ?_ rfl)
      refine mg_new (S := S) (lo := 0) (hi := 24) rfl h2 ht (Nat.le_refl 24) rfl (fun j hj => ?_) (fun i j hi9 hj => ?_)
      · rw [mdF_at hj]; exact msk_lt24 _
      · rw [hT, if_pos ⟨Nat.zero_le _, hj⟩, mdF_at hj, msk_bit, decide_eq_true hi9, Bool.true_and]; exact shrink_bit c2.1 hi9 hj
    · exact StepI_x hI (by decide +kernel) (by decide +kernel) (by decide) (by decide) (mex_X0_shrink_2 l b oL _ hBo _ _ _ _ _ _ (by decide) (mex_X1_shrink_2 l hlx b sl pv V _ (mg S) hS s hs t ht a2 ra2 c2)) (fun H2 hM => fx_ok (met_X3_shrink_2 l o S hM _ _ ra1 ra3 a2 ra2 c1 c2))
  · exact StepI_x hI (by decide +kernel) (by decide +kernel) (by decide) (by decide) (mex_X0_shrink_1 l b oL _ hBo _ _ _ _ _ _ (by decide) (mex_X1_shrink_1 l hlx b sl pv V _ (mg S) hS a1 a3 ra1 ra3 c1 a2)) (fun H2 hM => fx_ok (met_X3_shrink_1 l o S hM a1 a3 ra1 ra3 a2 ra2 c1))
set_option maxHeartbeats 1000000 in
theorem stp_fillHoles {w : pb_W} (l : Launch) (hlx : l.stackTraces = false) {H : Heap} {b sl o oL oD : Nat} {S : mS} (hI : LWI w H b sl o oL oD S) (a1 : Int) (ra1 : -2147483648 ≤ a1 ∧ a1 ≤ 2147483647) (a2 : Int) (ra2 : -2147483648 ≤ a2 ∧ a2 ≤ 2147483647) : StepI w l yX0_fillHoles cX0_fillHoles 5 [(0, 10, 13, 13)] yX3_fillHoles cX3_fillHoles 4 .int  [.ref b, .int (iZ (a1)), .int (iZ (a2)), .ref oL] [.ref o, .int (iZ (a1)), .int (iZ (a2))] H b sl o oL oD := by
  obtain ⟨M, e, V, G, pv, hP⟩ := id hI
  have hP := hP.g
  obtain ⟨h1, h2, h3, h4, h5, ⟨g6, h6⟩, ⟨g7, h7⟩, h8, h9, -⟩ := id hP
  have hS := h3.sq
  have hBo := h3.1.r
  by_cases c1 : (0 ≤ a1 ∧ a1 ≤ 7) ∧ 0 ≤ a2 ∧ a2 ≤ 7
  · obtain ⟨s, rfl, hs⟩ := sh_nat c1.1
    obtain ⟨t, rfl, ht⟩ := sh_nat c1.2
    have hgs : gok (mg S s) := mg_ok h2 hs
    have hgt : gok (mg S t) := mg_ok h2 ht
    obtain ⟨T, hT⟩ : ∃ T : Int → Int → Bool, T = fun x y => opk 0 (gc (mg S s) x y) (gc (inP (otG (mg S s) 24) 600) x y) := ⟨_, rfl⟩
    have hbx : ∀ x y, T x y = true → (0 ≤ x ∧ x ≤ 23) ∧ 0 ≤ y ∧ y ≤ 23 := by
      intro x y h
      rw [hT] at h
      exact opk_box hgs (in_law (gok_ot (g := mg S s) (Nat.le_refl 24))).1 x y h
    have he9 : ∀ x y, gc (grd T) x y = (fun x y => opk 0 (gc (mg S s) x y) (gc (inP (otG (mg S s) 24) 600) x y)) x y := fun x y => by rw [grd_gc hbx x y, hT]
    refine StepI_w hP ht (grd_ok T) (v := ((cnt (grd T) : Nat) : Int)) (by decide +kernel) (by decide +kernel) (by decide) (rg1 _ (cnt_le _)) (fun h => by cases h) (met_X0_fillHoles l b oL _ hBo _ _ _ _ _ (fun z H1 => z = ((cnt (grd T) : Nat) : Int) ∧ (∃ r, BP w H1 M b sl e pv (V.set t r) (gup (mg S) t (grd T))) ∧ pb_F (fun q => q < H.size ∧ q ≠ e) H H1) g6 (by decide) (met_X1_fillHoles l M b sl e pv V (mg S) h3 hP.new s hs t ht (grd T) (grd_ok T) he9) (fun z H1 hz => ⟨(hP.k2 hz.2.2).1, (hP.k2 hz.2.2).2, by rw [hz.1]; exact rg1 _ (cnt_le _)⟩) h6 h8) (fun H2 hM => wrP_ok (met_X3_fillHoles l o S hM s t hs ht h2) (fun P e9 => by rw [e9]) (fun P => ⟨rfl, rfl, rfl⟩) (fun P hF => ?_) (fun P => rfl))
    refine mg_new (S := S) (lo := 0) (hi := 24) rfl h2 ht (Nat.le_refl 24) rfl (fun j hj => ?_) (fun i j hi9 hj => ?_)
    · rw [mdR_at hj]; exact dif_lt24 (by decide)
    · rw [hT, if_pos ⟨Nat.zero_le _, hj⟩, mdR_at hj]
      exact fh_bit hgs hF hi9 hj
  · exact StepI_x hI (by decide +kernel) (by decide +kernel) (by decide) (by decide) (mex_X0_fillHoles_1 l b oL _ hBo _ _ _ _ _ (by decide) (mex_X1_fillHoles_1 l hlx b sl pv V _ (mg S) hS a1 a2 ra1 ra2 c1)) (fun H2 hM => fx_ok (met_X3_fillHoles_1 l o S hM a1 a2 ra1 ra2 c1))
set_option maxHeartbeats 1000000 in
theorem stp_keepPart {w : pb_W} (l : Launch) (hlx : l.stackTraces = false) {H : Heap} {b sl o oL oD : Nat} {S : mS} (hI : LWI w H b sl o oL oD S) (a1 : Int) (ra1 : -2147483648 ≤ a1 ∧ a1 ≤ 2147483647) (a2 : Int) (ra2 : -2147483648 ≤ a2 ∧ a2 ≤ 2147483647) (a3 : Int) (ra3 : -2147483648 ≤ a3 ∧ a3 ≤ 2147483647) (a4 : Int) (ra4 : -2147483648 ≤ a4 ∧ a4 ≤ 2147483647) : StepI w l yX0_keepPart cX0_keepPart 7 [(0, 14, 17, 13), (0, 14, 21, 15), (0, 14, 25, 64)] yX3_keepPart cX3_keepPart 6 .int  [.ref b, .int (iZ (a1)), .int (iZ (a2)), .int (iZ (a3)), .int (iZ (a4)), .ref oL] [.ref o, .int (iZ (a1)), .int (iZ (a2)), .int (iZ (a3)), .int (iZ (a4))] H b sl o oL oD := by
  obtain ⟨M, e, V, G, pv, hP⟩ := id hI
  have hP := hP.g
  obtain ⟨h1, h2, h3, h4, h5, ⟨g6, h6⟩, ⟨g7, h7⟩, h8, h9, -⟩ := id hP
  have hS := h3.sq
  have hBo := h3.1.r
  by_cases c1 : (0 ≤ a1 ∧ a1 ≤ 7) ∧ 0 ≤ a4 ∧ a4 ≤ 7
  · obtain ⟨s, rfl, hs⟩ := sh_nat c1.1
    obtain ⟨t, rfl, ht⟩ := sh_nat c1.2
    have hgs : gok (mg S s) := mg_ok h2 hs
    have hgt : gok (mg S t) := mg_ok h2 ht
    by_cases c2 : (0 ≤ a2 ∧ a2 ≤ 23) ∧ 0 ≤ a3 ∧ a3 ≤ 23
    · by_cases c3 : gc (mg S s) a2 a3 = true
      · obtain ⟨x, rfl⟩ := Int.eq_ofNat_of_zero_le c2.1.1
        obtain ⟨y, rfl⟩ := Int.eq_ofNat_of_zero_le c2.2.1
        have hbit : (mg S s y).testBit x = true := by rw [← gc_nat]; exact c3
        obtain ⟨T, hT⟩ : ∃ T : Int → Int → Bool, T = fun u v => @decide (cn (gT (mg S s)) false (((x : Nat) : Int), ((y : Nat) : Int)) (u, v)) (Classical.propDecidable _) := ⟨_, rfl⟩
        have hbx : ∀ x y, T x y = true → (0 ≤ x ∧ x ≤ 23) ∧ 0 ≤ y ∧ y ≤ 23 := by
          intro x y h
          rw [hT] at h
          exact gc_in hgs (cn_T (@of_decide_eq_true _ (Classical.propDecidable _) h))
        have he9 : ∀ u v, gc (grd T) u v = true ↔ cn (gT (mg S s)) false (((x : Nat) : Int), ((y : Nat) : Int)) (u, v) := fun u v => by rw [grd_gc hbx u v, hT]; exact @decide_eq_true_iff _ (Classical.propDecidable _)
        refine StepI_w hP ht (grd_ok T) (v := ((cnt (grd T) : Nat) : Int)) (by decide +kernel) (by decide +kernel) (by decide) (rg1 _ (cnt_le _)) (fun h => by cases h) (met_X0_keepPart l b oL _ hBo _ _ _ _ _ _ _ (fun z H1 => z = ((cnt (grd T) : Nat) : Int) ∧ (∃ r, BP w H1 M b sl e pv (V.set t r) (gup (mg S) t (grd T))) ∧ pb_F (fun q => q < H.size ∧ q ≠ e) H H1) g6 (by decide) (met_X1_keepPart l M b sl e pv V (mg S) h3 hP.new s hs t ht (grd T) (grd_ok T) _ _ c2.1 c2.2 c3 he9) (fun z H1 hz => ⟨(hP.k2 hz.2.2).1, (hP.k2 hz.2.2).2, by rw [hz.1]; exact rg1 _ (cnt_le _)⟩) h6 h8) (fun H2 hM => wrP_ok (met_X3_keepPart l o S hM s t hs ht h2 x y (by omega) (by omega) hbit) (fun P e9 => by rw [e9]) (fun P => ⟨rfl, rfl, rfl⟩) (fun P hF => ?_) (fun P => rfl))
        refine mg_new (S := S) (lo := 0) (hi := 24) rfl h2 ht (Nat.le_refl 24) rfl (fun j hj => ?_) (fun i j hi9 hj => ?_)
        · rw [mdR_at hj]; exact kp_lt2 hgs hF (by omega)
        · rw [hT, if_pos ⟨Nat.zero_le _, hj⟩, mdR_at hj]
          refine b_iff ((kp_bit hgs (by omega) (by omega) hbit hF hi9 hj).trans ?_)
          exact (@decide_eq_true_iff _ (Classical.propDecidable _)).symm
      · exact StepI_x hI (by decide +kernel) (by decide +kernel) (by decide) (by decide) (mex_X0_keepPart_3 l b oL _ hBo _ _ _ _ _ _ _ (by decide) (mex_X1_keepPart_3 l hlx b sl pv V _ (mg S) hS s hs t ht a2 a3 c2.1 c2.2 c3)) (fun H2 hM => fx_ok (met_X3_keepPart_3 l o S hM s t hs ht h2 a2 a3 ra2 ra3 c2 (Bool.eq_false_iff.mpr c3)))
    · exact StepI_x hI (by decide +kernel) (by decide +kernel) (by decide) (by decide) (mex_X0_keepPart_2 l b oL _ hBo _ _ _ _ _ _ _ (by decide) (mex_X1_keepPart_2 l hlx b sl pv V _ (mg S) hS s hs t ht a2 a3 ra2 ra3 c2)) (fun H2 hM => fx_ok (met_X3_keepPart_2 l o S hM s t hs ht a2 a3 ra2 ra3 c2))
  · exact StepI_x hI (by decide +kernel) (by decide +kernel) (by decide) (by decide) (mex_X0_keepPart_1 l b oL _ hBo _ _ _ _ _ _ _ (by decide) (mex_X1_keepPart_1 l hlx b sl pv V _ (mg S) hS a1 a4 ra1 ra4 c1 a2 a3)) (fun H2 hM => fx_ok (met_X3_keepPart_1 l o S hM a1 a4 ra1 ra4 a2 a3 ra2 ra3 c1))
