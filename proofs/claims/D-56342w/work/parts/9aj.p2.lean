set_option maxRecDepth 100000
set_option maxHeartbeats 1000000 in
theorem met_X1_checkDistance {w : pb_W} (l : Launch) {H : Heap} (d : Int) (hd : 0 ≤ d ∧ d ≤ 8) : pb_M w l yX1_checkDistance cX1_checkDistance 1 none 1 (0) (0) [.int (iZ (d))] H (pb_qn H) := by
  refine pb_of (by decide +kernel) (Nat.le_of_ble_eq_true rfl) ?_
  intro p_ e_ s_ m_ ar_ bl_ me_ co_ ls C hh hG hl
  have hl : lv_has ls 1 [(0, .int (iZ (d)))] := hl
  refine pb_iload_n C dX1_checkDistance_0 rfl (lv_at hl 0 rfl) ?_
  refine pb_ic C dX1_checkDistance_1 ?_
  refine pb_bip C dX1_checkDistance_2 (by decide) ?_
  refine pb_go_x (bc' := 0) (bs' := 0) (pb_runS (rest := []) C hG (met_X1_isBetween l d 0 8 (by omega) (by decide) (by decide)) (lw_S q332 q333 q51 q334) hdX1_isBetween rfl hl.1 rfl (Nat.le_of_ble_eq_true rfl) ⟨(Nat.le_of_ble_eq_true rfl), (Nat.le_of_ble_eq_true rfl)⟩ dX1_checkDistance_4) (by omega) (by omega) ?_
  refine pb_eq (g2 := F0 m_ 7 ls [.int (iZ (1))]) (congrArg (fun z9 => F0 m_ 7 ls [.int (iZ z9)]) (show (bI (decide (0 ≤ d ∧ d ≤ 8))) = 1 from (bI_t (decide_eq_true hd)))) ?_
  refine pb_go_n (bc' := 0) (bs' := 0) (pb_runS (rest := []) C hG (met_X1_checkArgument l) (lw_S q381 q382 q51 q383) hdX1_checkArgument rfl hl.1 rfl (Nat.le_of_ble_eq_true rfl) ⟨(Nat.le_of_ble_eq_true rfl), (Nat.le_of_ble_eq_true rfl)⟩ dX1_checkDistance_7) (by omega) (by omega) ?_
  exact pb_vret C dX1_checkDistance_10 (⟨rfl, rfl⟩)

set_option maxHeartbeats 1000000 in
theorem met_X1_shrink {w : pb_W} (l : Launch) {H0 : Heap} (M : Nat → Prop) (b sl e : Nat) (pv : Value) (V : List Nat) (G : Nat → Nat → Nat) (hB : BP w H0 M b sl e pv V G) (hM : ∀ q, H0.size ≤ q → M q) (s : Nat) (hs : s < 8) (t : Nat) (ht : t < 8) (g : Nat → Nat) (hg9 : gok g) (d : Int) (hd : 0 ≤ d ∧ d ≤ 8) (he9 : ∀ x y, gc g x y = opk 2 (gc (G s) x y) (dil (fun x y => (opk 2 ((decide (-d - 1 ≤ x) && decide (x < 24 + d + 1)) && (decide (-d - 1 ≤ y) && decide (y < 24 + d + 1))) (gc (G s) x y))) d x y)) : pb_M w l yX1_shrink cX1_shrink 5 (some .int) 10 (8854) (202418) [.ref (b), .int (iZ (((s : Nat) : Int))), .int (iZ (d)), .int (iZ (((t : Nat) : Int)))] H0 (pb_qi (fun z H1 => z = ((cnt g : Nat) : Int) ∧ (∃ r, BP w H1 M b sl e pv (V.set t r) (gup G t g)) ∧ pb_F (fun q => q < H0.size ∧ q ≠ e) H0 H1)) := by
  refine pb_of (by decide +kernel) (Nat.le_of_ble_eq_true rfl) ?_
  intro p_ e_ s_ m_ ar_ bl_ me_ co_ ls C hh hG hl
  have hl : lv_has ls 5 [(0, .ref (b)), (1, .int (iZ (((s : Nat) : Int)))), (2, .int (iZ (d))), (3, .int (iZ (((t : Nat) : Int))))] := hl
  have hzs := hG.1
  have hba := hB.a
  have hbp := hB
  obtain ⟨hO, hzb, hL, hV8, hQQ⟩ := id hbp
  have hS := hB.sq
  obtain ⟨fsl_, hLo⟩ := hL.o
  have hFF : pb_F (fun q => q < H0.size) H0 H0 := pb_F.rf
  obtain ⟨fsr_, hRo⟩ : ∃ fs, pb_R w H0 (nV V s) 1 fs := by
    obtain ⟨-, L9, hR9, -⟩ := hS.2 s hs
    exact hR9.o
  refine pb_aload_n C dX1_shrink_0 rfl (lv_at hl 0 rfl) ?_
  refine pb_iload_n C dX1_shrink_1 rfl (lv_at hl 1 rfl) ?_
  refine pb_iload_n C dX1_shrink_2 rfl (lv_at hl 3 rfl) ?_
  refine pb_go_x (bc' := 8854) (bs' := 202418) (pb_runV (rest := []) C hG (met_X1_regionFor l b sl pv V _ G hS s hs t ht) hO.r (ci := 0) rfl (lw_V q865 q867 qs12 q51 q868) ⟨rfl, hdX1_regionFor⟩ rfl hl.1 rfl (Nat.le_of_ble_eq_true rfl) ⟨(Nat.le_of_ble_eq_true rfl), (Nat.le_of_ble_eq_true rfl)⟩ dX1_shrink_3) (by omega) (by omega) ?_
  refine pb_astore C dX1_shrink_6 hl (by decide) rfl fun ls hl => ?_
  have hl : lv_has ls 5 [(4, .ref ((nV V s))), (0, .ref (b)), (1, .int (iZ (((s : Nat) : Int)))), (2, .int (iZ (d))), (3, .int (iZ (((t : Nat) : Int))))] := hl
  refine pb_iload_n C dX1_shrink_8 rfl (lv_at hl 3 rfl) ?_
  refine pb_go_n (bc' := 8854) (bs' := 202418) (pb_runS (rest := []) C hG (met_X1_checkDistance l d hd) (lw_S q869 q870 q51 q871) hdX1_checkDistance rfl hl.1 rfl (Nat.le_of_ble_eq_true rfl) ⟨(Nat.le_of_ble_eq_true rfl), (Nat.le_of_ble_eq_true rfl)⟩ dX1_shrink_9) (by omega) (by omega) ?_
  refine pb_aload_n C dX1_shrink_12 rfl (lv_at hl 1 rfl) ?_
  refine pb_iload_n C dX1_shrink_13 rfl (lv_at hl 4 rfl) ?_
  refine pb_aload C dX1_shrink_14 (lv_at hl 0 rfl) ?_
  refine pb_iload_n C dX1_shrink_16 rfl (lv_at hl 3 rfl) ?_
  refine pb_go_r (bc' := 2) (bs' := 6) (pb_runV (rest := [.int (iZ (((t : Nat) : Int))), .ref (b)]) C hG (met_X2_shrunk_g l (nV V s) _ (G s) (hS.2 s hs) d hd) hRo (ci := 1) rfl (lw_V q911 q912 q913 q55 q914) ⟨rfl, hdX2_shrunk⟩ rfl hl.1 rfl (Nat.le_of_ble_eq_true rfl) ⟨(Nat.le_of_ble_eq_true rfl), (Nat.le_of_ble_eq_true rfl)⟩ dX1_shrink_17) (by omega) (by omega) (fun r8 H_ hp_ => ?_)
  obtain ⟨L8, hRb, hr8, hF1⟩ := hp_
  have hs9 := hF1.1
  have hG := hG.kept (hF1.mono (fun q _ (hq : q < w.2.2.2) => show q < _ from by omega))
  have hFF := hFF.tr hF1
  have hB := hB.kept hF1
  have hO := hB.1
  have hQn := hRb.rq hr8 hg9 he9
  refine pb_go_i (bc' := 0) (bs' := 0) (pb_runV (rest := []) C hG (met_X1_put l M b sl e pv V G hB t ht r8 _ g hQn (fun q _ hq => ⟨by have := hq.1; omega, by have := hq.1; omega, by have := hq.1; omega, hM q (by have := hq.1; omega)⟩)) hO.r (ci := 0) rfl (lw_V q716 q718 qs8 q51 q719) ⟨rfl, hdX1_put⟩ rfl hl.1 rfl (Nat.le_of_ble_eq_true rfl) ⟨(Nat.le_of_ble_eq_true rfl), (Nat.le_of_ble_eq_true rfl)⟩ dX1_shrink_20) (by omega) (by omega) (fun z_ H9 hp_ => ?_)
  obtain ⟨rfl, hB, hF9⟩ := hp_
  have hFE : pb_F (fun q => q < H0.size ∧ q ≠ e) H0 H9 := (hFF.mono (fun q _ hq => hq.1)).tr (hF9.mono (fun q _ hq => (⟨by have := hFF.1; have := hq.1; omega, hq.2⟩ : q < _ ∧ q ≠ e)))
  exact pb_iret C dX1_shrink_23 (⟨_, rfl, rfl, ⟨_, hB⟩, hFE⟩)

set_option maxHeartbeats 1000000 in
theorem met_X1_grow {w : pb_W} (l : Launch) {H0 : Heap} (M : Nat → Prop) (b sl e : Nat) (pv : Value) (V : List Nat) (G : Nat → Nat → Nat) (hB : BP w H0 M b sl e pv V G) (hM : ∀ q, H0.size ≤ q → M q) (s : Nat) (hs : s < 8) (t : Nat) (ht : t < 8) (g : Nat → Nat) (hg9 : gok g) (d : Int) (hd : 0 ≤ d ∧ d ≤ 8) (he9 : ∀ x y, gc g x y = opk 1 (dil (gc (G s)) d x y) (cb24 x y)) : pb_M w l yX1_grow cX1_grow 5 (some .int) 10 (5867) (136449) [.ref (b), .int (iZ (((s : Nat) : Int))), .int (iZ (d)), .int (iZ (((t : Nat) : Int)))] H0 (pb_qi (fun z H1 => z = ((cnt g : Nat) : Int) ∧ (∃ r, BP w H1 M b sl e pv (V.set t r) (gup G t g)) ∧ pb_F (fun q => q < H0.size ∧ q ≠ e) H0 H1)) := by
  refine pb_of (by decide +kernel) (Nat.le_of_ble_eq_true rfl) ?_
  intro p_ e_ s_ m_ ar_ bl_ me_ co_ ls C hh hG hl
  have hl : lv_has ls 5 [(0, .ref (b)), (1, .int (iZ (((s : Nat) : Int)))), (2, .int (iZ (d))), (3, .int (iZ (((t : Nat) : Int))))] := hl
  have hzs := hG.1
  have hba := hB.a
  have hbp := hB
  obtain ⟨hO, hzb, hL, hV8, hQQ⟩ := id hbp
  have hS := hB.sq
  obtain ⟨fsl_, hLo⟩ := hL.o
  have hFF : pb_F (fun q => q < H0.size) H0 H0 := pb_F.rf
  obtain ⟨fsr_, hRo⟩ : ∃ fs, pb_R w H0 (nV V s) 1 fs := by
    obtain ⟨-, L9, hR9, -⟩ := hS.2 s hs
    exact hR9.o
  obtain ⟨hg, L, hR, hr⟩ := hS.2 s hs
  obtain ⟨hb9, hh9⟩ := rq_900 hg hr
  have hl24 := (rq_pre hg hr).2.2.2
  have hgt := growT_le hr (gc_box hg) ⟨by decide, by decide⟩ hd.1
  have hg40 : growT L d ≤ 40 := by omega
  have hrn := rp_n
  have hr40 := rp_40 hg40
  refine pb_aload_n C dX1_grow_0 rfl (lv_at hl 0 rfl) ?_
  refine pb_iload_n C dX1_grow_1 rfl (lv_at hl 1 rfl) ?_
  refine pb_iload_n C dX1_grow_2 rfl (lv_at hl 3 rfl) ?_
  refine pb_go_x (bc' := 5867) (bs' := 136449) (pb_runV (rest := []) C hG (met_X1_regionFor l b sl pv V _ G hS s hs t ht) hO.r (ci := 0) rfl (lw_V q865 q867 qs12 q51 q868) ⟨rfl, hdX1_regionFor⟩ rfl hl.1 rfl (Nat.le_of_ble_eq_true rfl) ⟨(Nat.le_of_ble_eq_true rfl), (Nat.le_of_ble_eq_true rfl)⟩ dX1_grow_3) (by omega) (by omega) ?_
  refine pb_astore C dX1_grow_6 hl (by decide) rfl fun ls hl => ?_
  have hl : lv_has ls 5 [(4, .ref ((nV V s))), (0, .ref (b)), (1, .int (iZ (((s : Nat) : Int)))), (2, .int (iZ (d))), (3, .int (iZ (((t : Nat) : Int))))] := hl
  refine pb_iload_n C dX1_grow_8 rfl (lv_at hl 3 rfl) ?_
  refine pb_go_n (bc' := 5867) (bs' := 136449) (pb_runS (rest := []) C hG (met_X1_checkDistance l d hd) (lw_S q869 q870 q51 q871) hdX1_checkDistance rfl hl.1 rfl (Nat.le_of_ble_eq_true rfl) ⟨(Nat.le_of_ble_eq_true rfl), (Nat.le_of_ble_eq_true rfl)⟩ dX1_grow_9) (by omega) (by omega) ?_
  refine pb_aload_n C dX1_grow_12 rfl (lv_at hl 1 rfl) ?_
  refine pb_iload_n C dX1_grow_13 rfl (lv_at hl 4 rfl) ?_
  refine pb_aload C dX1_grow_14 (lv_at hl 0 rfl) ?_
  refine pb_iload_n C dX1_grow_16 rfl (lv_at hl 3 rfl) ?_
  refine pb_go_r (bc' := 5867 - (135 + rpC 26 0 + 131 * growT L d + rpC (growT L d) 0)) (bs' := 136449 - (3188 + rpS 26 0 + 3176 * growT L d + rpS (growT L d) 0)) (pb_runV (rest := [.int (iZ (((t : Nat) : Int))), .ref (b)]) C hG (met_X2_grown l (nV V s) _ L hR d (by omega) hb9 hh9 (by omega) (by omega) (by omega) (gro_pre hr (gc_box hg) hd.1 (by decide) (by omega))) hRo (ci := 1) rfl (lw_V q872 q873 q874 q55 q875) ⟨rfl, hdX2_grown⟩ rfl hl.1 rfl (Nat.le_of_ble_eq_true rfl) ⟨(Nat.le_of_ble_eq_true rfl), (Nat.le_of_ble_eq_true rfl)⟩ dX1_grow_17) (by omega) (by omega) (fun r7 H1 hp_ => ?_)
  obtain ⟨hRb7, hF1⟩ := hp_
  have hs1 := hF1.1
  have hG := hG.kept (hF1.mono (fun q _ (hq : q < w.2.2.2) => show q < _ from by omega))
  have hFF := hFF.tr hF1
  have hr7 := gro_set hr hd.1
  have hbx7 := dil_box (gc_box hg) d
  have hl7 := rs_len hr7 hbx7 (by omega)
  have hR7 := hRb7.rg (by omega)
  obtain ⟨fs7_, hRo7⟩ := hR7.o
  have hbx0 : inBox (dil (gc (G s)) d) (0 - d) (24 + d) (0 - d) (24 + d) := hbx7
  have hcb9 : inBox (fun x y => (decide (0 ≤ x) && decide (x < 24)) && (decide (0 ≤ y) && decide (y < 24))) (0 - d) (24 + d) (0 - d) (24 + d) := fun x y e9 => by
    have := cb24_iff.mp e9
    omega
  obtain ⟨q1, q2, q3⟩ := cmb_pre hr7 (rec_set 0 0 24 24) hbx0 hcb9 (by omega) (by omega) 40 (by omega)
  refine pb_go_r (bc' := 5867 - (135 + rpC 26 0 + 131 * growT L d + rpC (growT L d) 0) - (10 + 9 * 40 + rpC 40 0)) (bs' := 136449 - (3188 + rpS 26 0 + 3176 * growT L d + rpS (growT L d) 0) - (39 + 138 * 40 + rpS 40 0)) (pb_runV (rest := [.int (iZ (((t : Nat) : Int))), .ref (b)]) C hG (met_X2_clipped l r7 _ _ hR7 40 (24 + d) (by decide) q1 q2 (fun y n hn => q3 (by omega) 1 y n hn)) hRo7 (ci := 1) rfl (lw_V q896 q897 q898 q55 q899) ⟨rfl, hdX2_clipped⟩ rfl hl.1 rfl (Nat.le_of_ble_eq_true rfl) ⟨(Nat.le_of_ble_eq_true rfl), (Nat.le_of_ble_eq_true rfl)⟩ dX1_grow_20) (by omega) (by omega) (fun r8 H2 hp_ => ?_)
  obtain ⟨Y8, hcm, hRb, hF2⟩ := hp_
  have hs2 := hF2.1
  have hG := hG.kept (hF2.mono (fun q _ (hq : q < w.2.2.2) => show q < _ from by omega))
  have hFF := hFF.tr (hF2.mono (fun q _ (hq : q < H0.size) => show q < _ from by omega))
  have hB := hB.kept hFF
  have hO := hB.1
  have hr8 := cmb_set hr7 (rec_set 0 0 24 24) hcm
  have hQn := hRb.rq hr8 hg9 he9
  refine pb_go_i (bc' := 5867 - (135 + rpC 26 0 + 131 * growT L d + rpC (growT L d) 0) - (10 + 9 * 40 + rpC 40 0) - 2) (bs' := 136449 - (3188 + rpS 26 0 + 3176 * growT L d + rpS (growT L d) 0) - (39 + 138 * 40 + rpS 40 0) - 6) (pb_runV (rest := []) C hG (met_X1_put l M b sl e pv V G hB t ht r8 _ g hQn (fun q _ hq => ⟨by have := hq.1; omega, by have := hq.1; omega, by have := hq.1; omega, hM q (by have := hq.1; omega)⟩)) hO.r (ci := 0) rfl (lw_V q716 q718 qs8 q51 q719) ⟨rfl, hdX1_put⟩ rfl hl.1 rfl (Nat.le_of_ble_eq_true rfl) ⟨(Nat.le_of_ble_eq_true rfl), (Nat.le_of_ble_eq_true rfl)⟩ dX1_grow_23) (by omega) (by omega) (fun z_ H9 hp_ => ?_)
  obtain ⟨rfl, hB, hF9⟩ := hp_
  have hFE : pb_F (fun q => q < H0.size ∧ q ≠ e) H0 H9 := (hFF.mono (fun q _ hq => hq.1)).tr (hF9.mono (fun q _ hq => (⟨by have := hFF.1; have := hq.1; omega, hq.2⟩ : q < _ ∧ q ≠ e)))
  exact pb_iret C dX1_grow_26 (⟨_, rfl, rfl, ⟨_, hB⟩, hFE⟩)

