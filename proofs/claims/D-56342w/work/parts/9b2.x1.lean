set_option maxRecDepth 100000
set_option maxHeartbeats 1000000 in
theorem mex_X1_checkArgument {w : pb_W} (l : Launch) {H : Heap} (hlx : l.stackTraces = false)  : pb_X w l yX1_checkArgument cX1_checkArgument 1 none 6 (1) (6) [.int (iZ (0))] H (RJ14) := by
  refine pb_ofX (by decide +kernel) (Nat.le_of_ble_eq_true rfl) ?_
  intro p_ e_ s_ m_ ar_ bl_ me_ co_ ls C hh hG hl hT
  have hG0 := hG
  have hF : pb_F (fun _ => True) H H := pb_F.rf
  have hl : lv_has ls 1 [(0, .int (iZ (0)))] := hl
  refine pb_iload_n C dX1_checkArgument_0 rfl (lv_at hl 0 rfl) ?_
  refine pb_if_ne C dX1_checkArgument_1 (x := 0) (tgt := 12) (by decide) (by omega) (fun c1_ => ?_) (fun c1_ => ?_)
  · exact absurd c1_ (by decide)
  · exact pb_throw C hlx hh hG0 hF hT xw_J14 hl.1 (by decide) (Nat.le_of_ble_eq_true rfl) (by omega) (by omega) dX1_checkArgument_4 dX1_checkArgument_7 dX1_checkArgument_8 dX1_checkArgument_11

set_option maxHeartbeats 1000000 in
theorem mex_X1_checkElement {w : pb_W} (l : Launch) {H : Heap} (hlx : l.stackTraces = false)  : pb_X w l yX1_checkElement cX1_checkElement 1 none 6 (1) (6) [.int (iZ (0))] H (RJ16) := by
  refine pb_ofX (by decide +kernel) (Nat.le_of_ble_eq_true rfl) ?_
  intro p_ e_ s_ m_ ar_ bl_ me_ co_ ls C hh hG hl hT
  have hG0 := hG
  have hF : pb_F (fun _ => True) H H := pb_F.rf
  have hl : lv_has ls 1 [(0, .int (iZ (0)))] := hl
  refine pb_iload_n C dX1_checkElement_0 rfl (lv_at hl 0 rfl) ?_
  refine pb_if_ne C dX1_checkElement_1 (x := 0) (tgt := 12) (by decide) (by omega) (fun c1_ => ?_) (fun c1_ => ?_)
  · exact absurd c1_ (by decide)
  · exact pb_throw C hlx hh hG0 hF hT xw_J16 hl.1 (by decide) (Nat.le_of_ble_eq_true rfl) (by omega) (by omega) dX1_checkElement_4 dX1_checkElement_7 dX1_checkElement_8 dX1_checkElement_11

set_option maxHeartbeats 1000000 in
theorem mex_X1_checkPath {w : pb_W} (l : Launch) {H : Heap} (hlx : l.stackTraces = false) (b : Nat) : pb_X w l yX1_checkPath cX1_checkPath 2 none 6 (1) (6) [.ref (b), .int (iZ (0))] H (RJ17) := by
  refine pb_ofX (by decide +kernel) (Nat.le_of_ble_eq_true rfl) ?_
  intro p_ e_ s_ m_ ar_ bl_ me_ co_ ls C hh hG hl hT
  have hG0 := hG
  have hF : pb_F (fun _ => True) H H := pb_F.rf
  have hl : lv_has ls 2 [(0, .ref (b)), (1, .int (iZ (0)))] := hl
  refine pb_iload_n C dX1_checkPath_0 rfl (lv_at hl 1 rfl) ?_
  refine pb_if_ne C dX1_checkPath_1 (x := 0) (tgt := 12) (by decide) (by omega) (fun c1_ => ?_) (fun c1_ => ?_)
  · exact absurd c1_ (by decide)
  · exact pb_throw C hlx hh hG0 hF hT xw_J17 hl.1 (by decide) (Nat.le_of_ble_eq_true rfl) (by omega) (by omega) dX1_checkPath_4 dX1_checkPath_7 dX1_checkPath_8 dX1_checkPath_11

set_option maxHeartbeats 1000000 in
theorem mex_X1_region {w : pb_W} (l : Launch) {H : Heap} (hlx : l.stackTraces = false) (b : Nat) (s : Int) (hs : -2147483648 ≤ s ∧ s ≤ 2147483647) (bs : ¬ (0 ≤ s ∧ s ≤ 7)) : pb_X w l yX1_region cX1_region 2 (some (.object "PolygonBoard$Region")) 6 (1) (6) [.ref (b), .int (iZ (s))] H (RJ9) := by
  refine pb_ofX (by decide +kernel) (Nat.le_of_ble_eq_true rfl) ?_
  intro p_ e_ s_ m_ ar_ bl_ me_ co_ ls C hh hG hl hT
  have hG0 := hG
  have hF : pb_F (fun _ => True) H H := pb_F.rf
  have hl : lv_has ls 2 [(0, .ref (b)), (1, .int (iZ (s)))] := hl
  refine pb_iload_n C dX1_region_0 rfl (lv_at hl 1 rfl) ?_
  refine pb_go_x (bc' := 1) (bs' := 6) (pb_runS (rest := []) C hG (met_X1_isSheet l s hs) (lw_S q329 q330 q51 q331) hdX1_isSheet rfl hl.1 rfl (Nat.le_of_ble_eq_true rfl) ⟨(Nat.le_of_ble_eq_true rfl), (Nat.le_of_ble_eq_true rfl)⟩ dX1_region_1) (by omega) (by omega) ?_
  refine pb_ifB_ne C dX1_region_4 (tgt := 15) (by decide) (fun c4_ => ?_) (fun c4_ => ?_)
  · have c4_ := of_decide_eq_true c4_
    exact absurd c4_ bs
  · have c4_ := of_decide_eq_false c4_
    exact pb_throw C hlx hh hG0 hF hT xw_J9 hl.1 (by decide) (Nat.le_of_ble_eq_true rfl) (by omega) (by omega) dX1_region_7 dX1_region_10 dX1_region_11 dX1_region_14

set_option maxHeartbeats 1000000 in
theorem mex_X1_regionFor_b {w : pb_W} (l : Launch) {H : Heap} (hlx : l.stackTraces = false) (b : Nat) (s : Int) (fs : List Value) (hBo : pb_R w H b 0 fs) (t : Int) (ht : -2147483648 ≤ t ∧ t ≤ 2147483647) (bt : ¬ (0 ≤ t ∧ t ≤ 7)) : pb_X w l yX1_regionFor cX1_regionFor 3 (some (.object "PolygonBoard$Region")) 7 (1) (6) [.ref (b), .int (iZ (s)), .int (iZ (t))] H (RJ9) := by
  refine pb_ofX (by decide +kernel) (Nat.le_of_ble_eq_true rfl) ?_
  intro p_ e_ s_ m_ ar_ bl_ me_ co_ ls C hh hG hl hT
  have hG0 := hG
  have hF : pb_F (fun _ => True) H H := pb_F.rf
  have hl : lv_has ls 3 [(0, .ref (b)), (1, .int (iZ (s))), (2, .int (iZ (t)))] := hl
  refine pb_aload_n C dX1_regionFor_0 rfl (lv_at hl 0 rfl) ?_
  refine pb_iload_n C dX1_regionFor_1 rfl (lv_at hl 2 rfl) ?_
  exact pb_outX C hF hT (pb_runVX (rest := []) C hG (mex_X1_region l hlx b t ht bt) hBo (ci := 0) rfl (lw_V q325 q327 qs4 q51 q328) ⟨rfl, hdX1_region⟩ rfl hl.1 rfl (Nat.le_of_ble_eq_true rfl) ⟨(Nat.le_of_ble_eq_true rfl), (Nat.le_of_ble_eq_true rfl)⟩ dX1_regionFor_2) (by omega) (by omega)

set_option maxHeartbeats 1000000 in
theorem mex_X1_regionFor_a {w : pb_W} (l : Launch) {H : Heap} (hlx : l.stackTraces = false) (b sl : Nat) (pv : Value) (V : List Nat) (P : Nat → Prop) (G : Nat → Nat → Nat) (hS : Sq w H P b sl pv V G) (t : Nat) (ht : t < 8) (s : Int) (hs : -2147483648 ≤ s ∧ s ≤ 2147483647) (bs : ¬ (0 ≤ s ∧ s ≤ 7)) : pb_X w l yX1_regionFor cX1_regionFor 3 (some (.object "PolygonBoard$Region")) 7 (1) (6) [.ref (b), .int (iZ (s)), .int (iZ (((t : Nat) : Int)))] H (RJ9) := by
  refine pb_ofX (by decide +kernel) (Nat.le_of_ble_eq_true rfl) ?_
  intro p_ e_ s_ m_ ar_ bl_ me_ co_ ls C hh hG hl hT
  have hG0 := hG
  have hF : pb_F (fun _ => True) H H := pb_F.rf
  have hl : lv_has ls 3 [(0, .ref (b)), (1, .int (iZ (s))), (2, .int (iZ (((t : Nat) : Int))))] := hl
  obtain ⟨hPb, hBo, hLr, hV8⟩ := id hS.1
  refine pb_aload_n C dX1_regionFor_0 rfl (lv_at hl 0 rfl) ?_
  refine pb_iload_n C dX1_regionFor_1 rfl (lv_at hl 2 rfl) ?_
  refine pb_go_x (bc' := 1) (bs' := 6) (pb_runV (rest := []) C hG (met_X1_region l b sl pv V _ G hS t ht) hBo (ci := 0) rfl (lw_V q325 q327 qs4 q51 q328) ⟨rfl, hdX1_region⟩ rfl hl.1 rfl (Nat.le_of_ble_eq_true rfl) ⟨(Nat.le_of_ble_eq_true rfl), (Nat.le_of_ble_eq_true rfl)⟩ dX1_regionFor_2) (by omega) (by omega) ?_
  refine pb_pop C dX1_regionFor_5 rfl ?_
  refine pb_aload_n C dX1_regionFor_6 rfl (lv_at hl 0 rfl) ?_
  refine pb_iload_n C dX1_regionFor_7 rfl (lv_at hl 1 rfl) ?_
  exact pb_outX C hF hT (pb_runVX (rest := []) C hG (mex_X1_region l hlx b s hs bs) hBo (ci := 0) rfl (lw_V q325 q327 qs4 q51 q328) ⟨rfl, hdX1_region⟩ rfl hl.1 rfl (Nat.le_of_ble_eq_true rfl) ⟨(Nat.le_of_ble_eq_true rfl), (Nat.le_of_ble_eq_true rfl)⟩ dX1_regionFor_8) (by omega) (by omega)

theorem sh_nat {t : Int} (h : 0 ≤ t ∧ t ≤ 7) : ∃ n : Nat, t = (n : Int) ∧ n < 8 := ⟨t.toNat, by omega, by omega⟩
theorem mex_X1_regionFor {w : pb_W} (l : Launch) {H : Heap} (hlx : l.stackTraces = false) (b sl : Nat) (pv : Value) (V : List Nat) (P : Nat → Prop) (G : Nat → Nat → Nat) (hS : Sq w H P b sl pv V G) (s t : Int) (hs : -2147483648 ≤ s ∧ s ≤ 2147483647) (ht : -2147483648 ≤ t ∧ t ≤ 2147483647) (hb : ¬ ((0 ≤ s ∧ s ≤ 7) ∧ 0 ≤ t ∧ t ≤ 7)) : pb_X w l yX1_regionFor cX1_regionFor 3 (some (.object "PolygonBoard$Region")) 7 1 6 [.ref b, .int (iZ s), .int (iZ t)] H RJ9 := by
  by_cases h : 0 ≤ t ∧ t ≤ 7
  · obtain ⟨n, rfl, hn⟩ := sh_nat h
    exact mex_X1_regionFor_a l hlx b sl pv V P G hS n hn s hs (fun h9 => hb ⟨h9, h⟩)
  · exact mex_X1_regionFor_b l hlx b s _ hS.1.2.1 t ht h

set_option maxHeartbeats 1000000 in
theorem mex_X1_checkedRegion_1 {w : pb_W} (l : Launch) {H : Heap} (hlx : l.stackTraces = false) (b : Nat) (fs : List Value) (hBo : pb_R w H b 0 fs) (s : Int) (hs : -2147483648 ≤ s ∧ s ≤ 2147483647) (bs : ¬ (0 ≤ s ∧ s ≤ 7)) : pb_X w l yX1_checkedRegion cX1_checkedRegion 3 (some (.object "PolygonBoard$Region")) 7 (1) (6) [.ref (b), .int (iZ (s))] H (RJ9) := by
  refine pb_ofX (by decide +kernel) (Nat.le_of_ble_eq_true rfl) ?_
  intro p_ e_ s_ m_ ar_ bl_ me_ co_ ls C hh hG hl hT
  have hG0 := hG
  have hF : pb_F (fun _ => True) H H := pb_F.rf
  have hl : lv_has ls 3 [(0, .ref (b)), (1, .int (iZ (s)))] := hl
  refine pb_aload_n C dX1_checkedRegion_0 rfl (lv_at hl 0 rfl) ?_
  refine pb_iload_n C dX1_checkedRegion_1 rfl (lv_at hl 1 rfl) ?_
  exact pb_outX C hF hT (pb_runVX (rest := []) C hG (mex_X1_region l hlx b s hs bs) hBo (ci := 0) rfl (lw_V q325 q327 qs4 q51 q328) ⟨rfl, hdX1_region⟩ rfl hl.1 rfl (Nat.le_of_ble_eq_true rfl) ⟨(Nat.le_of_ble_eq_true rfl), (Nat.le_of_ble_eq_true rfl)⟩ dX1_checkedRegion_2) (by omega) (by omega)

set_option maxHeartbeats 1000000 in
theorem mex_X1_checkedRegion_2 {w : pb_W} (l : Launch) {H : Heap} (hlx : l.stackTraces = false) (b sl : Nat) (pv : Value) (V : List Nat) (P : Nat → Prop) (G : Nat → Nat → Nat) (hS : Sq w H P b sl pv V G) (s : Nat) (hs : s < 8) (h0 : cnt (G s) = 0) : pb_X w l yX1_checkedRegion cX1_checkedRegion 3 (some (.object "PolygonBoard$Region")) 7 (1) (6) [.ref (b), .int (iZ (((s : Nat) : Int)))] H (RJ16) := by
  refine pb_ofX (by decide +kernel) (Nat.le_of_ble_eq_true rfl) ?_
  intro p_ e_ s_ m_ ar_ bl_ me_ co_ ls C hh hG hl hT
  have hG0 := hG
  have hF : pb_F (fun _ => True) H H := pb_F.rf
  have hl : lv_has ls 3 [(0, .ref (b)), (1, .int (iZ (((s : Nat) : Int))))] := hl
  obtain ⟨hPb, hBo, hLr, hV8⟩ := id hS.1
  obtain ⟨fsr_, hRo⟩ : ∃ fs, pb_R w H (nV V s) 1 fs := by
    obtain ⟨-, L9, hR9, -⟩ := hS.2 s hs
    exact hR9.o
  obtain ⟨hg, L, hR, hr⟩ := hS.2 s hs
  refine pb_aload_n C dX1_checkedRegion_0 rfl (lv_at hl 0 rfl) ?_
  refine pb_iload_n C dX1_checkedRegion_1 rfl (lv_at hl 1 rfl) ?_
  refine pb_go_x (bc' := 1) (bs' := 6) (pb_runV (rest := []) C hG (met_X1_region l b sl pv V _ G hS s hs) hBo (ci := 0) rfl (lw_V q325 q327 qs4 q51 q328) ⟨rfl, hdX1_region⟩ rfl hl.1 rfl (Nat.le_of_ble_eq_true rfl) ⟨(Nat.le_of_ble_eq_true rfl), (Nat.le_of_ble_eq_true rfl)⟩ dX1_checkedRegion_2) (by omega) (by omega) ?_
  refine pb_astore_n C dX1_checkedRegion_5 rfl hl (by decide) rfl fun ls hl => ?_
  have hl : lv_has ls 3 [(2, .ref ((nV V s))), (0, .ref (b)), (1, .int (iZ (((s : Nat) : Int))))] := hl
  refine pb_aload_n C dX1_checkedRegion_6 rfl (lv_at hl 0 rfl) ?_
  refine pb_go_x (bc' := 1) (bs' := 6) (pb_runV (rest := []) C hG (met_X2_isEmpty l (nV V s) P L hR) hRo (ci := 1) rfl (lw_V q1338 q884 q885 q55 q886) ⟨rfl, hdX2_isEmpty⟩ rfl hl.1 rfl (Nat.le_of_ble_eq_true rfl) ⟨(Nat.le_of_ble_eq_true rfl), (Nat.le_of_ble_eq_true rfl)⟩ dX1_checkedRegion_7) (by omega) (by omega) ?_
  refine pb_ifB_ne C dX1_checkedRegion_10 (tgt := 17) (by decide) (fun c10_ => ?_) (fun c10_ => ?_)
  · have c10_ := of_decide_eq_true c10_
    refine pb_ic C dX1_checkedRegion_17 ?_
    exact pb_outX C hF hT (pb_runSX (rest := []) C hG (mex_X1_checkElement l hlx) (lw_S q1082 q1083 q51 q1084) hdX1_checkElement rfl hl.1 rfl (Nat.le_of_ble_eq_true rfl) ⟨(Nat.le_of_ble_eq_true rfl), (Nat.le_of_ble_eq_true rfl)⟩ dX1_checkedRegion_18) (by omega) (by omega)
  · have c10_ := of_decide_eq_false c10_
    exact absurd ((len_cnt hg hr).mpr h0) c10_

set_option maxHeartbeats 1000000 in
theorem mex_X1_checkDistance {w : pb_W} (l : Launch) {H : Heap} (hlx : l.stackTraces = false) (d : Int) (hd : -2147483648 ≤ d ∧ d ≤ 2147483647) (bd : ¬ (0 ≤ d ∧ d ≤ 8)) : pb_X w l yX1_checkDistance cX1_checkDistance 1 none 7 (1) (6) [.int (iZ (d))] H (RJ14) := by
  refine pb_ofX (by decide +kernel) (Nat.le_of_ble_eq_true rfl) ?_
  intro p_ e_ s_ m_ ar_ bl_ me_ co_ ls C hh hG hl hT
  have hG0 := hG
  have hF : pb_F (fun _ => True) H H := pb_F.rf
  have hl : lv_has ls 1 [(0, .int (iZ (d)))] := hl
  refine pb_iload_n C dX1_checkDistance_0 rfl (lv_at hl 0 rfl) ?_
  refine pb_ic C dX1_checkDistance_1 ?_
  refine pb_bip C dX1_checkDistance_2 (by decide) ?_
  refine pb_go_x (bc' := 1) (bs' := 6) (pb_runS (rest := []) C hG (met_X1_isBetween l d 0 8 hd (by decide) (by decide)) (lw_S q332 q333 q51 q334) hdX1_isBetween rfl hl.1 rfl (Nat.le_of_ble_eq_true rfl) ⟨(Nat.le_of_ble_eq_true rfl), (Nat.le_of_ble_eq_true rfl)⟩ dX1_checkDistance_4) (by omega) (by omega) ?_
  refine pb_eq (g2 := F0 m_ 7 ls [.int (iZ (0))]) (congrArg (fun z9 => F0 m_ 7 ls [.int (iZ z9)]) (show (bI (decide (0 ≤ d ∧ d ≤ 8))) = 0 from (bI_f (decide_eq_false bd)))) ?_
  exact pb_outX C hF hT (pb_runSX (rest := []) C hG (mex_X1_checkArgument l hlx) (lw_S q381 q382 q51 q383) hdX1_checkArgument rfl hl.1 rfl (Nat.le_of_ble_eq_true rfl) ⟨(Nat.le_of_ble_eq_true rfl), (Nat.le_of_ble_eq_true rfl)⟩ dX1_checkDistance_7) (by omega) (by omega)

set_option maxHeartbeats 1000000 in
theorem mex_X1_checkRectangle {w : pb_W} (l : Launch) {H : Heap} (hlx : l.stackTraces = false) (a b c d : Int) (ha : -2147483648 ≤ a ∧ a ≤ 2147483647) (hb : -2147483648 ≤ b ∧ b ≤ 2147483647) (hc : -2147483648 ≤ c ∧ c ≤ 2147483647) (hd : -2147483648 ≤ d ∧ d ≤ 2147483647) (h9 : ¬ ((0 ≤ a ∧ 0 ≤ b) ∧ (c ≤ 24 ∧ d ≤ 24) ∧ a < c ∧ b < d)) : pb_X w l yX1_checkRectangle cX1_checkRectangle 4 none 7 (1) (6) [.int (iZ (a)), .int (iZ (b)), .int (iZ (c)), .int (iZ (d))] H (RJ14) := by
  refine pb_ofX (by decide +kernel) (Nat.le_of_ble_eq_true rfl) ?_
  intro p_ e_ s_ m_ ar_ bl_ me_ co_ ls C hh hG hl hT
  have hG0 := hG
  have hF : pb_F (fun _ => True) H H := pb_F.rf
  have hl : lv_has ls 4 [(0, .int (iZ (a))), (1, .int (iZ (b))), (2, .int (iZ (c))), (3, .int (iZ (d)))] := hl
  refine pb_iload_n C dX1_checkRectangle_0 rfl (lv_at hl 0 rfl) ?_
  refine pb_iload_n C dX1_checkRectangle_1 rfl (lv_at hl 1 rfl) ?_
  refine pb_go_x (bc' := 1) (bs' := 6) (pb_runS (rest := []) C hG (met_X1_isPoint l a b ha hb) (lw_S q378 q379 q51 q380) hdX1_isPoint rfl hl.1 rfl (Nat.le_of_ble_eq_true rfl) ⟨(Nat.le_of_ble_eq_true rfl), (Nat.le_of_ble_eq_true rfl)⟩ dX1_checkRectangle_2) (by omega) (by omega) ?_
  refine pb_ifB_eq C dX1_checkRectangle_5 (tgt := 30) (by decide) (fun c5_ => ?_) (fun c5_ => ?_)
  · refine pb_ic C dX1_checkRectangle_30 ?_
    exact pb_outX C hF hT (pb_runSX (rest := []) C hG (mex_X1_checkArgument l hlx) (lw_S q381 q382 q51 q383) hdX1_checkArgument rfl hl.1 rfl (Nat.le_of_ble_eq_true rfl) ⟨(Nat.le_of_ble_eq_true rfl), (Nat.le_of_ble_eq_true rfl)⟩ dX1_checkRectangle_31) (by omega) (by omega)
  · refine pb_iload_n C dX1_checkRectangle_8 rfl (lv_at hl 2 rfl) ?_
    refine pb_iload_n C dX1_checkRectangle_9 rfl (lv_at hl 3 rfl) ?_
    refine pb_go_x (bc' := 1) (bs' := 6) (pb_runS (rest := []) C hG (met_X1_isPoint l c d hc hd) (lw_S q378 q379 q51 q380) hdX1_isPoint rfl hl.1 rfl (Nat.le_of_ble_eq_true rfl) ⟨(Nat.le_of_ble_eq_true rfl), (Nat.le_of_ble_eq_true rfl)⟩ dX1_checkRectangle_10) (by omega) (by omega) ?_
    refine pb_ifB_eq C dX1_checkRectangle_13 (tgt := 30) (by decide) (fun c13_ => ?_) (fun c13_ => ?_)
    · refine pb_ic C dX1_checkRectangle_30 ?_
      exact pb_outX C hF hT (pb_runSX (rest := []) C hG (mex_X1_checkArgument l hlx) (lw_S q381 q382 q51 q383) hdX1_checkArgument rfl hl.1 rfl (Nat.le_of_ble_eq_true rfl) ⟨(Nat.le_of_ble_eq_true rfl), (Nat.le_of_ble_eq_true rfl)⟩ dX1_checkRectangle_31) (by omega) (by omega)
    · refine pb_iload_n C dX1_checkRectangle_16 rfl (lv_at hl 0 rfl) ?_
      refine pb_iload_n C dX1_checkRectangle_17 rfl (lv_at hl 2 rfl) ?_
      refine pb_icmp_ge C dX1_checkRectangle_18 (x := a) (y := c) (tgt := 30) (by decide) (by omega) (by omega) (fun c18_ => ?_) (fun c18_ => ?_)
      · refine pb_ic C dX1_checkRectangle_30 ?_
        exact pb_outX C hF hT (pb_runSX (rest := []) C hG (mex_X1_checkArgument l hlx) (lw_S q381 q382 q51 q383) hdX1_checkArgument rfl hl.1 rfl (Nat.le_of_ble_eq_true rfl) ⟨(Nat.le_of_ble_eq_true rfl), (Nat.le_of_ble_eq_true rfl)⟩ dX1_checkRectangle_31) (by omega) (by omega)
      · refine pb_iload_n C dX1_checkRectangle_21 rfl (lv_at hl 1 rfl) ?_
        refine pb_iload_n C dX1_checkRectangle_22 rfl (lv_at hl 3 rfl) ?_
        refine pb_icmp_ge C dX1_checkRectangle_23 (x := b) (y := d) (tgt := 30) (by decide) (by omega) (by omega) (fun c23_ => ?_) (fun c23_ => ?_)
        · refine pb_ic C dX1_checkRectangle_30 ?_
          exact pb_outX C hF hT (pb_runSX (rest := []) C hG (mex_X1_checkArgument l hlx) (lw_S q381 q382 q51 q383) hdX1_checkArgument rfl hl.1 rfl (Nat.le_of_ble_eq_true rfl) ⟨(Nat.le_of_ble_eq_true rfl), (Nat.le_of_ble_eq_true rfl)⟩ dX1_checkRectangle_31) (by omega) (by omega)
        · (rw [Bool.and_eq_true, decide_eq_true_eq, decide_eq_true_eq] at c5_ c13_; exact absurd ⟨⟨c5_.1.1, c5_.2.1⟩, ⟨c13_.1.2, c13_.2.2⟩, by omega, by omega⟩ h9)

