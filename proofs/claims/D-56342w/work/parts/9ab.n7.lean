set_option maxRecDepth 100000
set_option maxHeartbeats 1000000 in
theorem met_X1_turn {w : pb_W} (l : Launch) {H0 : Heap} (M : Nat → Prop) (b sl e : Nat) (pv : Value) (V : List Nat) (G : Nat → Nat → Nat) (hB : BP w H0 M b sl e pv V G) (hM : ∀ q, H0.size ≤ q → M q) (s : Nat) (hs : s < 8) (t : Nat) (ht : t < 8) (g : Nat → Nat) (hg9 : gok g) (he9 : ∀ x y, gc g x y = gc (G s) y (23 - x)) : pb_M w l yX1_turn cX1_turn 3 (some .int) 9 (152) (3090) [.ref (b), .int (iZ (((s : Nat) : Int))), .int (iZ (((t : Nat) : Int)))] H0 (pb_qi (fun z H1 => z = ((cnt g : Nat) : Int) ∧ (∃ r, BP w H1 M b sl e pv (V.set t r) (gup G t g)) ∧ pb_F (fun q => q < H0.size ∧ q ≠ e) H0 H1)) := by
  refine pb_of (by decide +kernel) (Nat.le_of_ble_eq_true rfl) ?_
  intro p_ e_ s_ m_ ar_ bl_ me_ co_ ls C hh hG hl
  have hl : lv_has ls 3 [(0, .ref (b)), (1, .int (iZ (((s : Nat) : Int)))), (2, .int (iZ (((t : Nat) : Int))))] := hl
  have hzs := hG.1
  have hba := hB.a
  have hbp := hB
  obtain ⟨hO, hzb, hL, hV8, hQQ⟩ := id hbp
  have hS := hB.sq
  obtain ⟨fsl_, hLo⟩ := hL.o
  have hFF : pb_F (fun q => q < H0.size) H0 H0 := pb_F.rf
  obtain ⟨fsr_, hRo⟩ : ∃ fs, pb_R w H0 (nV V s) 1 fs := by
    obtain ⟨-, L9, hR9, -⟩ := hS.2 s hs
    exact hR9.o
  refine pb_aload_n C dX1_turn_0 rfl (lv_at hl 0 rfl) ?_
  refine pb_iload_n C dX1_turn_1 rfl (lv_at hl 2 rfl) ?_
  refine pb_aload_n C dX1_turn_2 rfl (lv_at hl 0 rfl) ?_
  refine pb_iload_n C dX1_turn_3 rfl (lv_at hl 1 rfl) ?_
  refine pb_iload_n C dX1_turn_4 rfl (lv_at hl 2 rfl) ?_
  refine pb_go_x (bc' := 152) (bs' := 3090) (pb_runV (rest := [.int (iZ (((t : Nat) : Int))), .ref (b)]) C hG (met_X1_regionFor l b sl pv V _ G hS s hs t ht) hO.r (ci := 0) rfl (lw_V q865 q867 qs12 q51 q868) ⟨rfl, hdX1_regionFor⟩ rfl hl.1 rfl (Nat.le_of_ble_eq_true rfl) ⟨(Nat.le_of_ble_eq_true rfl), (Nat.le_of_ble_eq_true rfl)⟩ dX1_turn_5) (by omega) (by omega) ?_
  refine pb_go_r (bc' := 2) (bs' := 6) (pb_runV (rest := [.int (iZ (((t : Nat) : Int))), .ref (b)]) C hG (met_X2_turned_g l (nV V s) _ (G s) (hS.2 s hs)) hRo (ci := 1) rfl (lw_V q940 q941 q942 q55 q943) ⟨rfl, hdX2_turned⟩ rfl hl.1 rfl (Nat.le_of_ble_eq_true rfl) ⟨(Nat.le_of_ble_eq_true rfl), (Nat.le_of_ble_eq_true rfl)⟩ dX1_turn_8) (by omega) (by omega) (fun r8 H_ hp_ => ?_)
  obtain ⟨L8, hRb, hr8, hF1⟩ := hp_
  have hs9 := hF1.1
  have hG := hG.kept (hF1.mono (fun q _ (hq : q < w.2.2.2) => show q < _ from by omega))
  have hFF := hFF.tr hF1
  have hB := hB.kept hF1
  have hO := hB.1
  have hQn := hRb.rq hr8 hg9 he9
  refine pb_go_i (bc' := 0) (bs' := 0) (pb_runV (rest := []) C hG (met_X1_put l M b sl e pv V G hB t ht r8 _ g hQn (fun q _ hq => ⟨by have := hq.1; omega, by have := hq.1; omega, by have := hq.1; omega, hM q (by have := hq.1; omega)⟩)) hO.r (ci := 0) rfl (lw_V q716 q718 qs8 q51 q719) ⟨rfl, hdX1_put⟩ rfl hl.1 rfl (Nat.le_of_ble_eq_true rfl) ⟨(Nat.le_of_ble_eq_true rfl), (Nat.le_of_ble_eq_true rfl)⟩ dX1_turn_11) (by omega) (by omega) (fun z_ H9 hp_ => ?_)
  obtain ⟨rfl, hB, hF9⟩ := hp_
  have hFE : pb_F (fun q => q < H0.size ∧ q ≠ e) H0 H9 := (hFF.mono (fun q _ hq => hq.1)).tr (hF9.mono (fun q _ hq => (⟨by have := hFF.1; have := hq.1; omega, hq.2⟩ : q < _ ∧ q ≠ e)))
  exact pb_iret C dX1_turn_14 (⟨_, rfl, rfl, ⟨_, hB⟩, hFE⟩)

set_option maxHeartbeats 1000000 in
theorem met_X1_mirror {w : pb_W} (l : Launch) {H0 : Heap} (M : Nat → Prop) (b sl e : Nat) (pv : Value) (V : List Nat) (G : Nat → Nat → Nat) (hB : BP w H0 M b sl e pv V G) (hM : ∀ q, H0.size ≤ q → M q) (s : Nat) (hs : s < 8) (t : Nat) (ht : t < 8) (g : Nat → Nat) (hg9 : gok g) (he9 : ∀ x y, gc g x y = gc (G s) (23 - x) y) : pb_M w l yX1_mirror cX1_mirror 3 (some .int) 9 (153) (3094) [.ref (b), .int (iZ (((s : Nat) : Int))), .int (iZ (((t : Nat) : Int)))] H0 (pb_qi (fun z H1 => z = ((cnt g : Nat) : Int) ∧ (∃ r, BP w H1 M b sl e pv (V.set t r) (gup G t g)) ∧ pb_F (fun q => q < H0.size ∧ q ≠ e) H0 H1)) := by
  refine pb_of (by decide +kernel) (Nat.le_of_ble_eq_true rfl) ?_
  intro p_ e_ s_ m_ ar_ bl_ me_ co_ ls C hh hG hl
  have hl : lv_has ls 3 [(0, .ref (b)), (1, .int (iZ (((s : Nat) : Int)))), (2, .int (iZ (((t : Nat) : Int))))] := hl
  have hzs := hG.1
  have hba := hB.a
  have hbp := hB
  obtain ⟨hO, hzb, hL, hV8, hQQ⟩ := id hbp
  have hS := hB.sq
  obtain ⟨fsl_, hLo⟩ := hL.o
  have hFF : pb_F (fun q => q < H0.size) H0 H0 := pb_F.rf
  obtain ⟨fsr_, hRo⟩ : ∃ fs, pb_R w H0 (nV V s) 1 fs := by
    obtain ⟨-, L9, hR9, -⟩ := hS.2 s hs
    exact hR9.o
  refine pb_aload_n C dX1_mirror_0 rfl (lv_at hl 0 rfl) ?_
  refine pb_iload_n C dX1_mirror_1 rfl (lv_at hl 2 rfl) ?_
  refine pb_aload_n C dX1_mirror_2 rfl (lv_at hl 0 rfl) ?_
  refine pb_iload_n C dX1_mirror_3 rfl (lv_at hl 1 rfl) ?_
  refine pb_iload_n C dX1_mirror_4 rfl (lv_at hl 2 rfl) ?_
  refine pb_go_x (bc' := 153) (bs' := 3094) (pb_runV (rest := [.int (iZ (((t : Nat) : Int))), .ref (b)]) C hG (met_X1_regionFor l b sl pv V _ G hS s hs t ht) hO.r (ci := 0) rfl (lw_V q865 q867 qs12 q51 q868) ⟨rfl, hdX1_regionFor⟩ rfl hl.1 rfl (Nat.le_of_ble_eq_true rfl) ⟨(Nat.le_of_ble_eq_true rfl), (Nat.le_of_ble_eq_true rfl)⟩ dX1_mirror_5) (by omega) (by omega) ?_
  refine pb_go_r (bc' := 2) (bs' := 6) (pb_runV (rest := [.int (iZ (((t : Nat) : Int))), .ref (b)]) C hG (met_X2_mirrored_g l (nV V s) _ (G s) (hS.2 s hs)) hRo (ci := 1) rfl (lw_V q956 q957 q958 q55 q959) ⟨rfl, hdX2_mirrored⟩ rfl hl.1 rfl (Nat.le_of_ble_eq_true rfl) ⟨(Nat.le_of_ble_eq_true rfl), (Nat.le_of_ble_eq_true rfl)⟩ dX1_mirror_8) (by omega) (by omega) (fun r8 H_ hp_ => ?_)
  obtain ⟨L8, hRb, hr8, hF1⟩ := hp_
  have hs9 := hF1.1
  have hG := hG.kept (hF1.mono (fun q _ (hq : q < w.2.2.2) => show q < _ from by omega))
  have hFF := hFF.tr hF1
  have hB := hB.kept hF1
  have hO := hB.1
  have hQn := hRb.rq hr8 hg9 he9
  refine pb_go_i (bc' := 0) (bs' := 0) (pb_runV (rest := []) C hG (met_X1_put l M b sl e pv V G hB t ht r8 _ g hQn (fun q _ hq => ⟨by have := hq.1; omega, by have := hq.1; omega, by have := hq.1; omega, hM q (by have := hq.1; omega)⟩)) hO.r (ci := 0) rfl (lw_V q716 q718 qs8 q51 q719) ⟨rfl, hdX1_put⟩ rfl hl.1 rfl (Nat.le_of_ble_eq_true rfl) ⟨(Nat.le_of_ble_eq_true rfl), (Nat.le_of_ble_eq_true rfl)⟩ dX1_mirror_11) (by omega) (by omega) (fun z_ H9 hp_ => ?_)
  obtain ⟨rfl, hB, hF9⟩ := hp_
  have hFE : pb_F (fun q => q < H0.size ∧ q ≠ e) H0 H9 := (hFF.mono (fun q _ hq => hq.1)).tr (hF9.mono (fun q _ hq => (⟨by have := hFF.1; have := hq.1; omega, hq.2⟩ : q < _ ∧ q ≠ e)))
  exact pb_iret C dX1_mirror_14 (⟨_, rfl, rfl, ⟨_, hB⟩, hFE⟩)

set_option maxHeartbeats 1000000 in
theorem met_X1_move {w : pb_W} (l : Launch) {H0 : Heap} (M : Nat → Prop) (b sl e : Nat) (pv : Value) (V : List Nat) (G : Nat → Nat → Nat) (hB : BP w H0 M b sl e pv V G) (hM : ∀ q, H0.size ≤ q → M q) (s : Nat) (hs : s < 8) (t : Nat) (ht : t < 8) (g : Nat → Nat) (hg9 : gok g) (rr u : Int) (hrr : -24 ≤ rr ∧ rr ≤ 24) (huu : -24 ≤ u ∧ u ≤ 24) (he9 : ∀ x y, gc g x y = (gc (G s) (x - rr) (y - u) && cb24 x y)) : pb_M w l yX1_move cX1_move 6 (some .int) 11 (648) (10030) [.ref (b), .int (iZ (((s : Nat) : Int))), .int (iZ (rr)), .int (iZ (u)), .int (iZ (((t : Nat) : Int)))] H0 (pb_qi (fun z H1 => z = ((cnt g : Nat) : Int) ∧ (∃ r, BP w H1 M b sl e pv (V.set t r) (gup G t g)) ∧ pb_F (fun q => q < H0.size ∧ q ≠ e) H0 H1)) := by
  refine pb_of (by decide +kernel) (Nat.le_of_ble_eq_true rfl) ?_
  intro p_ e_ s_ m_ ar_ bl_ me_ co_ ls C hh hG hl
  have hl : lv_has ls 6 [(0, .ref (b)), (1, .int (iZ (((s : Nat) : Int)))), (2, .int (iZ (rr))), (3, .int (iZ (u))), (4, .int (iZ (((t : Nat) : Int))))] := hl
  have hzs := hG.1
  have hba := hB.a
  have hbp := hB
  obtain ⟨hO, hzb, hL, hV8, hQQ⟩ := id hbp
  have hS := hB.sq
  obtain ⟨fsl_, hLo⟩ := hL.o
  have hFF : pb_F (fun q => q < H0.size) H0 H0 := pb_F.rf
  obtain ⟨fsr_, hRo⟩ : ∃ fs, pb_R w H0 (nV V s) 1 fs := by
    obtain ⟨-, L9, hR9, -⟩ := hS.2 s hs
    exact hR9.o
  refine pb_aload_n C dX1_move_0 rfl (lv_at hl 0 rfl) ?_
  refine pb_iload_n C dX1_move_1 rfl (lv_at hl 1 rfl) ?_
  refine pb_iload C dX1_move_2 (lv_at hl 4 rfl) ?_
  refine pb_go_x (bc' := 648) (bs' := 10030) (pb_runV (rest := []) C hG (met_X1_regionFor l b sl pv V _ G hS s hs t ht) hO.r (ci := 0) rfl (lw_V q865 q867 qs12 q51 q868) ⟨rfl, hdX1_regionFor⟩ rfl hl.1 rfl (Nat.le_of_ble_eq_true rfl) ⟨(Nat.le_of_ble_eq_true rfl), (Nat.le_of_ble_eq_true rfl)⟩ dX1_move_4) (by omega) (by omega) ?_
  refine pb_astore C dX1_move_7 hl (by decide) rfl fun ls hl => ?_
  have hl : lv_has ls 6 [(5, .ref ((nV V s))), (0, .ref (b)), (1, .int (iZ (((s : Nat) : Int)))), (2, .int (iZ (rr))), (3, .int (iZ (u))), (4, .int (iZ (((t : Nat) : Int))))] := hl
  refine pb_iload_n C dX1_move_9 rfl (lv_at hl 3 rfl) ?_
  refine pb_bip C dX1_move_10 (by decide) ?_
  refine pb_bip C dX1_move_12 (by decide) ?_
  refine pb_go_x (bc' := 648) (bs' := 10030) (pb_runS (rest := []) C hG (met_X1_isBetween l rr (-24) 24 (by omega) (by decide) (by decide)) (lw_S q332 q333 q51 q334) hdX1_isBetween rfl hl.1 rfl (Nat.le_of_ble_eq_true rfl) ⟨(Nat.le_of_ble_eq_true rfl), (Nat.le_of_ble_eq_true rfl)⟩ dX1_move_14) (by omega) (by omega) ?_
  refine pb_ifB_eq C dX1_move_17 (tgt := 35) (by decide) (fun c17_ => ?_) (fun c17_ => ?_)
  · have c17_ := of_decide_eq_false c17_
    omega
  · have c17_ := of_decide_eq_true c17_
    refine pb_iload_n C dX1_move_20 rfl (lv_at hl 4 rfl) ?_
    refine pb_bip C dX1_move_21 (by decide) ?_
    refine pb_bip C dX1_move_23 (by decide) ?_
    refine pb_go_x (bc' := 648) (bs' := 10030) (pb_runS (rest := []) C hG (met_X1_isBetween l u (-24) 24 (by omega) (by decide) (by decide)) (lw_S q332 q333 q51 q334) hdX1_isBetween rfl hl.1 rfl (Nat.le_of_ble_eq_true rfl) ⟨(Nat.le_of_ble_eq_true rfl), (Nat.le_of_ble_eq_true rfl)⟩ dX1_move_25) (by omega) (by omega) ?_
    refine pb_ifB_eq C dX1_move_28 (tgt := 35) (by decide) (fun c28_ => ?_) (fun c28_ => ?_)
    · have c28_ := of_decide_eq_false c28_
      omega
    · have c28_ := of_decide_eq_true c28_
      refine pb_ic C dX1_move_31 ?_
      refine pb_goto C dX1_move_32 (tgt := 36) (by decide) ?_
      refine pb_go_n (bc' := 648) (bs' := 10030) (pb_runS (rest := []) C hG (met_X1_checkArgument l) (lw_S q381 q382 q51 q383) hdX1_checkArgument rfl hl.1 rfl (Nat.le_of_ble_eq_true rfl) ⟨(Nat.le_of_ble_eq_true rfl), (Nat.le_of_ble_eq_true rfl)⟩ dX1_move_36) (by omega) (by omega) ?_
      refine pb_aload_n C dX1_move_39 rfl (lv_at hl 1 rfl) ?_
      refine pb_iload C dX1_move_40 (lv_at hl 5 rfl) ?_
      refine pb_aload C dX1_move_42 (lv_at hl 0 rfl) ?_
      refine pb_iload_n C dX1_move_44 rfl (lv_at hl 3 rfl) ?_
      refine pb_iload_n C dX1_move_45 rfl (lv_at hl 4 rfl) ?_
      refine pb_go_r (bc' := 2) (bs' := 6) (pb_runV (rest := [.int (iZ (((t : Nat) : Int))), .ref (b)]) C hG (met_X2_moved_g l (nV V s) _ (G s) (hS.2 s hs) rr u hrr huu) hRo (ci := 1) rfl (lw_V q924 q925 q926 q55 q927) ⟨rfl, hdX2_moved⟩ rfl hl.1 rfl (Nat.le_of_ble_eq_true rfl) ⟨(Nat.le_of_ble_eq_true rfl), (Nat.le_of_ble_eq_true rfl)⟩ dX1_move_46) (by omega) (by omega) (fun r8 H_ hp_ => ?_)
      obtain ⟨L8, hRb, hr8, hF1⟩ := hp_
      have hs9 := hF1.1
      have hG := hG.kept (hF1.mono (fun q _ (hq : q < w.2.2.2) => show q < _ from by omega))
      have hFF := hFF.tr hF1
      have hB := hB.kept hF1
      have hO := hB.1
      have hQn := hRb.rq hr8 hg9 he9
      refine pb_go_i (bc' := 0) (bs' := 0) (pb_runV (rest := []) C hG (met_X1_put l M b sl e pv V G hB t ht r8 _ g hQn (fun q _ hq => ⟨by have := hq.1; omega, by have := hq.1; omega, by have := hq.1; omega, hM q (by have := hq.1; omega)⟩)) hO.r (ci := 0) rfl (lw_V q716 q718 qs8 q51 q719) ⟨rfl, hdX1_put⟩ rfl hl.1 rfl (Nat.le_of_ble_eq_true rfl) ⟨(Nat.le_of_ble_eq_true rfl), (Nat.le_of_ble_eq_true rfl)⟩ dX1_move_49) (by omega) (by omega) (fun z_ H9 hp_ => ?_)
      obtain ⟨rfl, hB, hF9⟩ := hp_
      have hFE : pb_F (fun q => q < H0.size ∧ q ≠ e) H0 H9 := (hFF.mono (fun q _ hq => hq.1)).tr (hF9.mono (fun q _ hq => (⟨by have := hFF.1; have := hq.1; omega, hq.2⟩ : q < _ ∧ q ≠ e)))
      exact pb_iret C dX1_move_52 (⟨_, rfl, rfl, ⟨_, hB⟩, hFE⟩)

set_option maxHeartbeats 1000000 in
theorem met_X1_fillHoles {w : pb_W} (l : Launch) {H0 : Heap} (M : Nat → Prop) (b sl e : Nat) (pv : Value) (V : List Nat) (G : Nat → Nat → Nat) (hB : BP w H0 M b sl e pv V G) (hM : ∀ q, H0.size ≤ q → M q) (s : Nat) (hs : s < 8) (t : Nat) (ht : t < 8) (g : Nat → Nat) (hg9 : gok g) (he9 : ∀ x y, gc g x y = opk 0 (gc (G s) x y) (gc (inP (otG (G s) 24) 600) x y)) : pb_M w l yX1_fillHoles cX1_fillHoles 5 (some .int) 9 (3310) (65000) [.ref (b), .int (iZ (((s : Nat) : Int))), .int (iZ (((t : Nat) : Int)))] H0 (pb_qi (fun z H1 => z = ((cnt g : Nat) : Int) ∧ (∃ r, BP w H1 M b sl e pv (V.set t r) (gup G t g)) ∧ pb_F (fun q => q < H0.size ∧ q ≠ e) H0 H1)) := by
  refine pb_of (by decide +kernel) (Nat.le_of_ble_eq_true rfl) ?_
  intro p_ e_ s_ m_ ar_ bl_ me_ co_ ls C hh hG hl
  have hl : lv_has ls 5 [(0, .ref (b)), (1, .int (iZ (((s : Nat) : Int)))), (2, .int (iZ (((t : Nat) : Int))))] := hl
  have hzs := hG.1
  have hba := hB.a
  have hbp := hB
  obtain ⟨hO, hzb, hL, hV8, hQQ⟩ := id hbp
  have hS := hB.sq
  obtain ⟨fsl_, hLo⟩ := hL.o
  have hFF : pb_F (fun q => q < H0.size) H0 H0 := pb_F.rf
  obtain ⟨fsr_, hRo⟩ : ∃ fs, pb_R w H0 (nV V s) 1 fs := by
    obtain ⟨-, L9, hR9, -⟩ := hS.2 s hs
    exact hR9.o
  obtain ⟨hg, L, hR, hr⟩ := hS.2 s hs
  obtain ⟨hp1, hp2, hp3, hp4⟩ := rq_pre hg hr
  have hgi := (in_law (gok_ot (g := G s) (Nat.le_refl 24))).1
  refine pb_aload_n C dX1_fillHoles_0 rfl (lv_at hl 0 rfl) ?_
  refine pb_iload_n C dX1_fillHoles_1 rfl (lv_at hl 1 rfl) ?_
  refine pb_iload_n C dX1_fillHoles_2 rfl (lv_at hl 2 rfl) ?_
  refine pb_go_x (bc' := 3310) (bs' := 65000) (pb_runV (rest := []) C hG (met_X1_regionFor l b sl pv V _ G hS s hs t ht) hO.r (ci := 0) rfl (lw_V q865 q867 qs12 q51 q868) ⟨rfl, hdX1_regionFor⟩ rfl hl.1 rfl (Nat.le_of_ble_eq_true rfl) ⟨(Nat.le_of_ble_eq_true rfl), (Nat.le_of_ble_eq_true rfl)⟩ dX1_fillHoles_3) (by omega) (by omega) ?_
  refine pb_astore_n C dX1_fillHoles_6 rfl hl (by decide) rfl fun ls hl => ?_
  have hl : lv_has ls 5 [(3, .ref ((nV V s))), (0, .ref (b)), (1, .int (iZ (((s : Nat) : Int)))), (2, .int (iZ (((t : Nat) : Int))))] := hl
  refine pb_aload_n C dX1_fillHoles_7 rfl (lv_at hl 0 rfl) ?_
  refine pb_go_r (bc' := 3284) (bs' := 64879) (pb_runS (rest := []) C hG (met_X12_of l (nV V s) _ L hR hp3 (row_le hr.1)) (lw_S q971 q972 q82 q973) hdX12_of rfl hl.1 rfl (Nat.le_of_ble_eq_true rfl) ⟨(Nat.le_of_ble_eq_true rfl), (Nat.le_of_ble_eq_true rfl)⟩ dX1_fillHoles_8) (by omega) (by omega) (fun c H1 hp_ => ?_)
  obtain ⟨hC, hF1⟩ := hp_
  rw [ofG_law hg hr] at hC
  have hG := hG.kept (hF1.mono (fun q _ (hq : q < w.2.2.2) => show q < _ from by omega))
  have hQ := hC.q
  obtain ⟨fsc_, hCo⟩ := hQ.o
  have hFF := hFF.tr hF1
  have hs1 := hF1.1
  refine pb_go_r (bc' := 3282) (bs' := 64854) (pb_runV (rest := []) C hG (met_X12_others l c _ (G s) hQ) hCo (ci := 11) rfl (lw_V q988 q989 q990 q82 q991) ⟨rfl, hdX12_others⟩ rfl hl.1 rfl (Nat.le_of_ble_eq_true rfl) ⟨(Nat.le_of_ble_eq_true rfl), (Nat.le_of_ble_eq_true rfl)⟩ dX1_fillHoles_11) (by omega) (by omega) (fun c1 H2 hp_ => ?_)
  obtain ⟨hC1, hF2⟩ := hp_
  have hG := hG.kept (hF2.mono (fun q _ (hq : q < w.2.2.2) => show q < _ from by omega))
  obtain ⟨fsc1_, hCo1⟩ := hC1.q.o
  have hFF := hFF.tr (hF2.mono (fun q _ (hq : q < H0.size) => show q < _ from by omega))
  have hs2 := hF2.1
  have hpg := popG_le (otG (G s) 24)
  have hcz : w.2.2.2 ≤ H1.size := by omega
  refine pb_go_r (bc' := 3282 - (2 + 5 * popG (otG (G s) 24))) (bs' := 64854 - (25 + 97 * popG (otG (G s) 24))) (pb_runV (rest := []) C hG (met_X12_inner l H1.size c1 _ (otG (G s) 24) hC1 hcz) hCo1 (ci := 11) rfl (lw_V q993 q994 q995 q82 q996) ⟨rfl, hdX12_inner⟩ rfl hl.1 rfl (Nat.le_of_ble_eq_true rfl) ⟨(Nat.le_of_ble_eq_true rfl), (Nat.le_of_ble_eq_true rfl)⟩ dX1_fillHoles_14) (by omega) (by omega) (fun c2 H3 hp_ => ?_)
  obtain ⟨hC2, hF3⟩ := hp_
  have hG := hG.kept (hF3.mono (fun q _ (hq : q < w.2.2.2) => (⟨by omega, by omega⟩ : q < _ ∧ q ≠ _)))
  obtain ⟨fsc2_, hCo2⟩ := hC2.q.o
  have hFF := hFF.tr (hF3.mono (fun q _ (hq : q < H0.size) => (⟨by omega, by omega⟩ : q < _ ∧ q ≠ _)))
  have hs3 := hF3.1
  refine pb_go_r (bc' := 3282 - (2 + 5 * popG (otG (G s) 24)) - 150) (bs' := 64854 - (25 + 97 * popG (otG (G s) 24)) - 3084) (pb_runV (rest := []) C hG (met_X12_toRegion_g l c2 _ (inP (otG (G s) 24) 600) hC2.q hgi) hCo2 (ci := 11) rfl (lw_V q1025 q1026 q1027 q82 q1028) ⟨rfl, hdX12_toRegion⟩ rfl hl.1 rfl (Nat.le_of_ble_eq_true rfl) ⟨(Nat.le_of_ble_eq_true rfl), (Nat.le_of_ble_eq_true rfl)⟩ dX1_fillHoles_17) (by omega) (by omega) (fun r1 H4 hp_ => ?_)
  obtain ⟨L1, hRb1, hr1, hF4⟩ := hp_
  have hG := hG.kept (hF4.mono (fun q _ (hq : q < w.2.2.2) => show q < _ from by omega))
  have hFF := hFF.tr (hF4.mono (fun q _ (hq : q < H0.size) => show q < _ from by omega))
  have hs4 := hF4.1
  have hQ1 := hRb1.rq hr1 hgi (fun _ _ => rfl)
  have hS := hS.kept hFF
  obtain ⟨fsr_, hRo⟩ : ∃ fs, pb_R w H4 (nV V s) 1 fs := by
    obtain ⟨-, L9, hR9, -⟩ := hS.2 s hs
    exact hR9.o
  have hB := hB.kept hFF
  have hO := hB.1
  refine pb_astore C dX1_fillHoles_20 hl (by decide) rfl fun ls hl => ?_
  have hl : lv_has ls 5 [(4, .ref (r1)), (3, .ref ((nV V s))), (0, .ref (b)), (1, .int (iZ (((s : Nat) : Int)))), (2, .int (iZ (((t : Nat) : Int))))] := hl
  refine pb_aload_n C dX1_fillHoles_22 rfl (lv_at hl 2 rfl) ?_
  refine pb_iload_n C dX1_fillHoles_23 rfl (lv_at hl 4 rfl) ?_
  refine pb_aload_n C dX1_fillHoles_24 rfl (lv_at hl 1 rfl) ?_
  refine pb_aload C dX1_fillHoles_25 (lv_at hl 0 rfl) ?_
  refine pb_gets C (n := "UNION") (v := .ref (w.2.2.1 3)) hG.2.2.2.2.2.2.2.2.2.1.1 q481 (fun _ h9 => h9) dX1_fillHoles_27 ?_
  refine pb_go_r (bc' := 3282 - (2 + 5 * popG (otG (G s) 24)) - 150 - 248) (bs' := 64854 - (25 + 97 * popG (otG (G s) 24)) - 3084 - 3476) (pb_runV (rest := [.int (iZ (((t : Nat) : Int))), .ref (b)]) C hG (met_X2_combine_g l (nV V s) r1 0 (by decide) _ _ (G s) (inP (otG (G s) 24) 600) (hS.2 s hs) hQ1) hRo (ci := 1) rfl (lw_V q664 q665 q666 q55 q667) ⟨rfl, hdX2_combine⟩ rfl hl.1 rfl (Nat.le_of_ble_eq_true rfl) ⟨(Nat.le_of_ble_eq_true rfl), (Nat.le_of_ble_eq_true rfl)⟩ dX1_fillHoles_30) (by omega) (by omega) (fun r8 H5 hp_ => ?_)
  obtain ⟨L8, hR8, hr8, hF5⟩ := hp_
  have hs5 := hF5.1
  have hG := hG.kept (hF5.mono (fun q _ (hq : q < w.2.2.2) => show q < _ from by omega))
  have hFF := hFF.tr (hF5.mono (fun q _ (hq : q < H0.size) => show q < _ from by omega))
  have hB := hB.kept hF5
  have hO := hB.1
  have hQn : Rq w H5 _ r8 g := ⟨hg9, L8, hR8, rs_cong hr8 (fun x y => (he9 x y).symm)⟩
  refine pb_go_i (bc' := 3282 - (2 + 5 * popG (otG (G s) 24)) - 150 - 248 - 2) (bs' := 64854 - (25 + 97 * popG (otG (G s) 24)) - 3084 - 3476 - 6) (pb_runV (rest := []) C hG (met_X1_put l M b sl e pv V G hB t ht r8 _ g hQn (fun q _ hq => ⟨by have := hq.1; omega, by have := hq.1; omega, by have := hq.1; omega, hM q (by have := hq.1; omega)⟩)) hO.r (ci := 0) rfl (lw_V q716 q718 qs8 q51 q719) ⟨rfl, hdX1_put⟩ rfl hl.1 rfl (Nat.le_of_ble_eq_true rfl) ⟨(Nat.le_of_ble_eq_true rfl), (Nat.le_of_ble_eq_true rfl)⟩ dX1_fillHoles_33) (by omega) (by omega) (fun z_ H9 hp_ => ?_)
  obtain ⟨rfl, hB, hF9⟩ := hp_
  have hFE : pb_F (fun q => q < H0.size ∧ q ≠ e) H0 H9 := (hFF.mono (fun q _ hq => hq.1)).tr (hF9.mono (fun q _ hq => (⟨by have := hFF.1; have := hq.1; omega, hq.2⟩ : q < _ ∧ q ≠ e)))
  exact pb_iret C dX1_fillHoles_36 (⟨_, rfl, rfl, ⟨_, hB⟩, hFE⟩)

