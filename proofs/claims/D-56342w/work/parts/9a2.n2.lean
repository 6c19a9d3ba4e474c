set_option maxRecDepth 100000
set_option maxHeartbeats 1000000 in
theorem met_X1_area {w : pb_W} (l : Launch) {H0 : Heap} (b sl : Nat) (pv : Value) (V : List Nat) (P : Nat → Prop) (G : Nat → Nat → Nat) (hS0 : Sq w H0 P b sl pv V G) (s : Nat) (hs : s < 8) : pb_M w l yX1_area cX1_area 2 (some .int) 6 (2) (6) [.ref (b), .int (iZ (((s : Nat) : Int)))] H0 (pb_qi (fun z H1 => z = ((cnt (G s) : Nat) : Int) ∧ pb_F (fun q => q < H0.size) H0 H1)) := by
  refine pb_of (by decide +kernel) (Nat.le_of_ble_eq_true rfl) ?_
  intro p_ e_ s_ m_ ar_ bl_ me_ co_ ls C hh hG hl
  have hl : lv_has ls 2 [(0, .ref (b)), (1, .int (iZ (((s : Nat) : Int))))] := hl
  have hzs := hG.1
  have hS := hS0.below
  have hFF : pb_F (fun q => q < H0.size) H0 H0 := pb_F.rf
  obtain ⟨hPb, hBo, hLr, hV8⟩ := id hS.1
  obtain ⟨hg, L, hR, hr⟩ := hS.2 s hs
  obtain ⟨fsr_, hRo⟩ := hR.o
  obtain ⟨hp1, hp2, hp3, hp4⟩ := rq_pre hg hr
  refine pb_aload_n C dX1_area_0 rfl (lv_at hl 0 rfl) ?_
  refine pb_iload_n C dX1_area_1 rfl (lv_at hl 1 rfl) ?_
  refine pb_go_x (bc' := 2) (bs' := 6) (pb_runV (rest := []) C hG (met_X1_region l b sl pv V _ G hS s hs) hBo (ci := 0) rfl (lw_V q325 q327 qs4 q51 q328) ⟨rfl, hdX1_region⟩ rfl hl.1 rfl (Nat.le_of_ble_eq_true rfl) ⟨(Nat.le_of_ble_eq_true rfl), (Nat.le_of_ble_eq_true rfl)⟩ dX1_area_2) (by omega) (by omega) ?_
  refine pb_go_i (bc' := 0) (bs' := 0) (pb_runV (rest := []) C hG (met_X2_area l (nV V s) _ L hR hp1 hp2) hRo (ci := 1) rfl (lw_V q487 q488 q489 q55 q490) ⟨rfl, hdX2_area⟩ rfl hl.1 rfl (Nat.le_of_ble_eq_true rfl) ⟨(Nat.le_of_ble_eq_true rfl), (Nat.le_of_ble_eq_true rfl)⟩ dX1_area_5) (by omega) (by omega) (fun z_ H_ hp_ => ?_)
  obtain ⟨rfl, hF1⟩ := hp_
  exact pb_iret C dX1_area_8 (⟨_, rfl, (ar_area hr (gc_box hg)).trans (cN_cnt hg), hF1⟩)

set_option maxHeartbeats 1000000 in
theorem met_X1_areaByCells {w : pb_W} (l : Launch) {H0 : Heap} (b sl : Nat) (pv : Value) (V : List Nat) (P : Nat → Prop) (G : Nat → Nat → Nat) (hS0 : Sq w H0 P b sl pv V G) (s : Nat) (hs : s < 8) : pb_M w l yX1_areaByCells cX1_areaByCells 2 (some .int) 5 (26) (121) [.ref (b), .int (iZ (((s : Nat) : Int)))] H0 (pb_qi (fun z H1 => z = ((cnt (G s) : Nat) : Int) ∧ pb_F (fun q => q < H0.size) H0 H1)) := by
  refine pb_of (by decide +kernel) (Nat.le_of_ble_eq_true rfl) ?_
  intro p_ e_ s_ m_ ar_ bl_ me_ co_ ls C hh hG hl
  have hl : lv_has ls 2 [(0, .ref (b)), (1, .int (iZ (((s : Nat) : Int))))] := hl
  have hzs := hG.1
  have hS := hS0.below
  have hFF : pb_F (fun q => q < H0.size) H0 H0 := pb_F.rf
  obtain ⟨hPb, hBo, hLr, hV8⟩ := id hS.1
  obtain ⟨hg, L, hR, hr⟩ := hS.2 s hs
  obtain ⟨fsr_, hRo⟩ := hR.o
  obtain ⟨hp1, hp2, hp3, hp4⟩ := rq_pre hg hr
  refine pb_aload_n C dX1_areaByCells_0 rfl (lv_at hl 0 rfl) ?_
  refine pb_iload_n C dX1_areaByCells_1 rfl (lv_at hl 1 rfl) ?_
  refine pb_go_x (bc' := 26) (bs' := 121) (pb_runV (rest := []) C hG (met_X1_region l b sl pv V _ G hS s hs) hBo (ci := 0) rfl (lw_V q325 q327 qs4 q51 q328) ⟨rfl, hdX1_region⟩ rfl hl.1 rfl (Nat.le_of_ble_eq_true rfl) ⟨(Nat.le_of_ble_eq_true rfl), (Nat.le_of_ble_eq_true rfl)⟩ dX1_areaByCells_2) (by omega) (by omega) ?_
  refine pb_go_r (bc' := 0) (bs' := 0) (pb_runS (rest := []) C hG (met_X12_of l (nV V s) _ L hR hp3 (row_le hr.1)) (lw_S q971 q972 q82 q973) hdX12_of rfl hl.1 rfl (Nat.le_of_ble_eq_true rfl) ⟨(Nat.le_of_ble_eq_true rfl), (Nat.le_of_ble_eq_true rfl)⟩ dX1_areaByCells_5) (by omega) (by omega) (fun c H_ hp_ => ?_)
  obtain ⟨hC, hF1⟩ := hp_
  rw [ofG_law hg hr] at hC
  have hG := hG.kept (hF1.mono (fun q _ (hq : q < w.2.2.2) => show q < _ from by omega))
  have hQ := hC.q
  obtain ⟨fsc_, hCo⟩ := hQ.o
  have hFF := hFF.tr hF1
  have hcz := hC.1
  have hclt := hC.2.2.1.lt
  have hrlt := hC.2.2.2.1.lt
  refine pb_go_x (bc' := 0) (bs' := 0) (pb_runV (rest := []) C hG (met_X12_area l c _ (G s) hQ) hCo (ci := 11) rfl (lw_V q1126 q1127 q1128 q82 q1129) ⟨rfl, hdX12_area⟩ rfl hl.1 rfl (Nat.le_of_ble_eq_true rfl) ⟨(Nat.le_of_ble_eq_true rfl), (Nat.le_of_ble_eq_true rfl)⟩ dX1_areaByCells_8) (by omega) (by omega) ?_
  exact pb_iret C dX1_areaByCells_11 (⟨_, rfl, by rw [arB_law hg], hFF⟩)

set_option maxHeartbeats 1000000 in
theorem met_X1_perimeterByCells {w : pb_W} (l : Launch) {H0 : Heap} (b sl : Nat) (pv : Value) (V : List Nat) (P : Nat → Prop) (G : Nat → Nat → Nat) (hS0 : Sq w H0 P b sl pv V G) (s : Nat) (hs : s < 8) : pb_M w l yX1_perimeterByCells cX1_perimeterByCells 2 (some .int) 5 (26) (121) [.ref (b), .int (iZ (((s : Nat) : Int)))] H0 (pb_qi (fun z H1 => z = ((permV (G s) : Nat) : Int) ∧ pb_F (fun q => q < H0.size) H0 H1)) := by
  refine pb_of (by decide +kernel) (Nat.le_of_ble_eq_true rfl) ?_
  intro p_ e_ s_ m_ ar_ bl_ me_ co_ ls C hh hG hl
  have hl : lv_has ls 2 [(0, .ref (b)), (1, .int (iZ (((s : Nat) : Int))))] := hl
  have hzs := hG.1
  have hS := hS0.below
  have hFF : pb_F (fun q => q < H0.size) H0 H0 := pb_F.rf
  obtain ⟨hPb, hBo, hLr, hV8⟩ := id hS.1
  obtain ⟨hg, L, hR, hr⟩ := hS.2 s hs
  obtain ⟨fsr_, hRo⟩ := hR.o
  obtain ⟨hp1, hp2, hp3, hp4⟩ := rq_pre hg hr
  refine pb_aload_n C dX1_perimeterByCells_0 rfl (lv_at hl 0 rfl) ?_
  refine pb_iload_n C dX1_perimeterByCells_1 rfl (lv_at hl 1 rfl) ?_
  refine pb_go_x (bc' := 26) (bs' := 121) (pb_runV (rest := []) C hG (met_X1_region l b sl pv V _ G hS s hs) hBo (ci := 0) rfl (lw_V q325 q327 qs4 q51 q328) ⟨rfl, hdX1_region⟩ rfl hl.1 rfl (Nat.le_of_ble_eq_true rfl) ⟨(Nat.le_of_ble_eq_true rfl), (Nat.le_of_ble_eq_true rfl)⟩ dX1_perimeterByCells_2) (by omega) (by omega) ?_
  refine pb_go_r (bc' := 0) (bs' := 0) (pb_runS (rest := []) C hG (met_X12_of l (nV V s) _ L hR hp3 (row_le hr.1)) (lw_S q971 q972 q82 q973) hdX12_of rfl hl.1 rfl (Nat.le_of_ble_eq_true rfl) ⟨(Nat.le_of_ble_eq_true rfl), (Nat.le_of_ble_eq_true rfl)⟩ dX1_perimeterByCells_5) (by omega) (by omega) (fun c H_ hp_ => ?_)
  obtain ⟨hC, hF1⟩ := hp_
  rw [ofG_law hg hr] at hC
  have hG := hG.kept (hF1.mono (fun q _ (hq : q < w.2.2.2) => show q < _ from by omega))
  have hQ := hC.q
  obtain ⟨fsc_, hCo⟩ := hQ.o
  have hFF := hFF.tr hF1
  have hcz := hC.1
  have hclt := hC.2.2.1.lt
  have hrlt := hC.2.2.2.1.lt
  refine pb_go_x (bc' := 0) (bs' := 0) (pb_runV (rest := []) C hG (met_X12_perimeter l c _ (G s) hQ) hCo (ci := 11) rfl (lw_V q1171 q1172 q1173 q82 q1174) ⟨rfl, hdX12_perimeter⟩ rfl hl.1 rfl (Nat.le_of_ble_eq_true rfl) ⟨(Nat.le_of_ble_eq_true rfl), (Nat.le_of_ble_eq_true rfl)⟩ dX1_perimeterByCells_8) (by omega) (by omega) ?_
  exact pb_iret C dX1_perimeterByCells_11 (⟨_, rfl, by rw [peB_law hg], hFF⟩)

set_option maxHeartbeats 1000000 in
theorem met_X1_momentByCells {w : pb_W} (l : Launch) {H0 : Heap} (b sl : Nat) (pv : Value) (V : List Nat) (P : Nat → Prop) (G : Nat → Nat → Nat) (hS0 : Sq w H0 P b sl pv V G) (s : Nat) (hs : s < 8) : pb_M w l yX1_momentByCells cX1_momentByCells 2 (some .long) 5 (26) (121) [.ref (b), .int (iZ (((s : Nat) : Int)))] H0 (pb_ql (fun z H1 => z = ((momV (G s) : Nat) : Int) ∧ pb_F (fun q => q < H0.size) H0 H1)) := by
  refine pb_of (by decide +kernel) (Nat.le_of_ble_eq_true rfl) ?_
  intro p_ e_ s_ m_ ar_ bl_ me_ co_ ls C hh hG hl
  have hl : lv_has ls 2 [(0, .ref (b)), (1, .int (iZ (((s : Nat) : Int))))] := hl
  have hzs := hG.1
  have hS := hS0.below
  have hFF : pb_F (fun q => q < H0.size) H0 H0 := pb_F.rf
  obtain ⟨hPb, hBo, hLr, hV8⟩ := id hS.1
  obtain ⟨hg, L, hR, hr⟩ := hS.2 s hs
  obtain ⟨fsr_, hRo⟩ := hR.o
  obtain ⟨hp1, hp2, hp3, hp4⟩ := rq_pre hg hr
  refine pb_aload_n C dX1_momentByCells_0 rfl (lv_at hl 0 rfl) ?_
  refine pb_iload_n C dX1_momentByCells_1 rfl (lv_at hl 1 rfl) ?_
  refine pb_go_x (bc' := 26) (bs' := 121) (pb_runV (rest := []) C hG (met_X1_region l b sl pv V _ G hS s hs) hBo (ci := 0) rfl (lw_V q325 q327 qs4 q51 q328) ⟨rfl, hdX1_region⟩ rfl hl.1 rfl (Nat.le_of_ble_eq_true rfl) ⟨(Nat.le_of_ble_eq_true rfl), (Nat.le_of_ble_eq_true rfl)⟩ dX1_momentByCells_2) (by omega) (by omega) ?_
  refine pb_go_r (bc' := 0) (bs' := 0) (pb_runS (rest := []) C hG (met_X12_of l (nV V s) _ L hR hp3 (row_le hr.1)) (lw_S q971 q972 q82 q973) hdX12_of rfl hl.1 rfl (Nat.le_of_ble_eq_true rfl) ⟨(Nat.le_of_ble_eq_true rfl), (Nat.le_of_ble_eq_true rfl)⟩ dX1_momentByCells_5) (by omega) (by omega) (fun c H_ hp_ => ?_)
  obtain ⟨hC, hF1⟩ := hp_
  rw [ofG_law hg hr] at hC
  have hG := hG.kept (hF1.mono (fun q _ (hq : q < w.2.2.2) => show q < _ from by omega))
  have hQ := hC.q
  obtain ⟨fsc_, hCo⟩ := hQ.o
  have hFF := hFF.tr hF1
  have hcz := hC.1
  have hclt := hC.2.2.1.lt
  have hrlt := hC.2.2.2.1.lt
  refine pb_go_x (bc' := 0) (bs' := 0) (pb_runV (rest := []) C hG (met_X12_moment l c _ (G s) hQ) hCo (ci := 11) rfl (lw_V q1656 q1657 q1658 q82 q1659) ⟨rfl, hdX12_moment⟩ rfl hl.1 rfl (Nat.le_of_ble_eq_true rfl) ⟨(Nat.le_of_ble_eq_true rfl), (Nat.le_of_ble_eq_true rfl)⟩ dX1_momentByCells_8) (by omega) (by omega) ?_
  exact pb_lret C dX1_momentByCells_11 (⟨_, rfl, moG_law hg, hFF⟩)

set_option maxHeartbeats 1000000 in
theorem met_X1_perimeter {w : pb_W} (l : Launch) {H0 : Heap} (b sl : Nat) (pv : Value) (V : List Nat) (P : Nat → Prop) (G : Nat → Nat → Nat) (hS0 : Sq w H0 P b sl pv V G) (s : Nat) (hs : s < 8) : pb_M w l yX1_perimeter cX1_perimeter 2 (some .int) 6 (169) (3124) [.ref (b), .int (iZ (((s : Nat) : Int)))] H0 (pb_qi (fun z H1 => z = ((permV (G s) : Nat) : Int) ∧ pb_F (fun q => q < H0.size) H0 H1)) := by
  refine pb_of (by decide +kernel) (Nat.le_of_ble_eq_true rfl) ?_
  intro p_ e_ s_ m_ ar_ bl_ me_ co_ ls C hh hG hl
  have hl : lv_has ls 2 [(0, .ref (b)), (1, .int (iZ (((s : Nat) : Int))))] := hl
  have hzs := hG.1
  have hS := hS0.below
  have hFF : pb_F (fun q => q < H0.size) H0 H0 := pb_F.rf
  obtain ⟨hPb, hBo, hLr, hV8⟩ := id hS.1
  obtain ⟨hg, L, hR, hr⟩ := hS.2 s hs
  obtain ⟨fsr_, hRo⟩ := hR.o
  obtain ⟨hp1, hp2, hp3, hp4⟩ := rq_pre hg hr
  refine pb_aload_n C dX1_perimeter_0 rfl (lv_at hl 0 rfl) ?_
  refine pb_iload_n C dX1_perimeter_1 rfl (lv_at hl 1 rfl) ?_
  refine pb_go_x (bc' := 169) (bs' := 3124) (pb_runV (rest := []) C hG (met_X1_region l b sl pv V _ G hS s hs) hBo (ci := 0) rfl (lw_V q325 q327 qs4 q51 q328) ⟨rfl, hdX1_region⟩ rfl hl.1 rfl (Nat.le_of_ble_eq_true rfl) ⟨(Nat.le_of_ble_eq_true rfl), (Nat.le_of_ble_eq_true rfl)⟩ dX1_perimeter_2) (by omega) (by omega) ?_
  refine pb_go_i (bc' := 169 - (1 + 7 * L.length)) (bs' := 3124 - (4 + 130 * L.length)) (pb_runV (rest := []) C hG (met_X2_perimeter l (nV V s) _ L hR (rq_per hg hr)) hRo (ci := 1) rfl (lw_V q1143 q1144 q1145 q55 q1146) ⟨rfl, hdX2_perimeter⟩ rfl hl.1 rfl (Nat.le_of_ble_eq_true rfl) ⟨(Nat.le_of_ble_eq_true rfl), (Nat.le_of_ble_eq_true rfl)⟩ dX1_perimeter_5) (by omega) (by omega) (fun z_ H_ hp_ => ?_)
  obtain ⟨rfl, hF1⟩ := hp_
  exact pb_iret C dX1_perimeter_8 (⟨_, rfl, per_law hg hr, hF1⟩)

set_option maxHeartbeats 1000000 in
theorem met_X1_bandCount {w : pb_W} (l : Launch) {H0 : Heap} (b sl : Nat) (pv : Value) (V : List Nat) (P : Nat → Prop) (G : Nat → Nat → Nat) (hS0 : Sq w H0 P b sl pv V G) (s : Nat) (hs : s < 8) : pb_M w l yX1_bandCount cX1_bandCount 2 (some .int) 4 (0) (0) [.ref (b), .int (iZ (((s : Nat) : Int)))] H0 (pb_qi (fun z H1 => z = ((bandV (G s) : Nat) : Int) ∧ pb_F (fun q => q < H0.size) H0 H1)) := by
  refine pb_of (by decide +kernel) (Nat.le_of_ble_eq_true rfl) ?_
  intro p_ e_ s_ m_ ar_ bl_ me_ co_ ls C hh hG hl
  have hl : lv_has ls 2 [(0, .ref (b)), (1, .int (iZ (((s : Nat) : Int))))] := hl
  have hzs := hG.1
  have hS := hS0.below
  have hFF : pb_F (fun q => q < H0.size) H0 H0 := pb_F.rf
  obtain ⟨hPb, hBo, hLr, hV8⟩ := id hS.1
  obtain ⟨hg, L, hR, hr⟩ := hS.2 s hs
  obtain ⟨fsr_, hRo⟩ := hR.o
  obtain ⟨hp1, hp2, hp3, hp4⟩ := rq_pre hg hr
  refine pb_aload_n C dX1_bandCount_0 rfl (lv_at hl 0 rfl) ?_
  refine pb_iload_n C dX1_bandCount_1 rfl (lv_at hl 1 rfl) ?_
  refine pb_go_x (bc' := 0) (bs' := 0) (pb_runV (rest := []) C hG (met_X1_region l b sl pv V _ G hS s hs) hBo (ci := 0) rfl (lw_V q325 q327 qs4 q51 q328) ⟨rfl, hdX1_region⟩ rfl hl.1 rfl (Nat.le_of_ble_eq_true rfl) ⟨(Nat.le_of_ble_eq_true rfl), (Nat.le_of_ble_eq_true rfl)⟩ dX1_bandCount_2) (by omega) (by omega) ?_
  obtain ⟨t2, V2, hPa2, hRO2, hLr2, hVn2, hBd2⟩ := id hR
  obtain ⟨fsl2_, hLo2⟩ := hLr2.o
  have hn92 := hLr2.n
  refine pb_getN C in_X2 hRO2 (ci := 1) rfl 0 (by decide) q141 (fun _ h9 => h9) (v := .ref (t2)) rfl dX1_bandCount_5 ?_
  skip
  refine pb_go_x (bc' := 0) (bs' := 0) (pb_runF (n := 0) (rest := []) C hG (x := ⟨"java/util/List", "size", "()I"⟩) (met_J2_size l t2 _ V2 hLr2) hLo2 (ci := 15) rfl (by decide) q1188 q444 q446 q54 q448 (by decide +kernel) rfl hl.1 rfl (Nat.le_of_ble_eq_true rfl) ⟨(Nat.le_of_ble_eq_true rfl), (Nat.le_of_ble_eq_true rfl)⟩ dX1_bandCount_8) (by omega) (by omega) ?_
  exact pb_iret C dX1_bandCount_13 (⟨_, rfl, by rw [hVn2, band_law hg hr], pb_F.rf⟩)

set_option maxHeartbeats 1000000 in
theorem met_X1_checkedRegion {w : pb_W} (l : Launch) {H0 : Heap} (b sl : Nat) (pv : Value) (V : List Nat) (P : Nat → Prop) (G : Nat → Nat → Nat) (hS0 : Sq w H0 P b sl pv V G) (s : Nat) (hs : s < 8) (h0 : cnt (G s) ≠ 0) : pb_M w l yX1_checkedRegion cX1_checkedRegion 3 (some (.object "PolygonBoard$Region")) 4 (0) (0) [.ref (b), .int (iZ (((s : Nat) : Int)))] H0 (pb_qx (.ref (nV V s)) H0) := by
  refine pb_of (by decide +kernel) (Nat.le_of_ble_eq_true rfl) ?_
  intro p_ e_ s_ m_ ar_ bl_ me_ co_ ls C hh hG hl
  have hl : lv_has ls 3 [(0, .ref (b)), (1, .int (iZ (((s : Nat) : Int))))] := hl
  have hzs := hG.1
  have hS := hS0.below
  have hFF : pb_F (fun q => q < H0.size) H0 H0 := pb_F.rf
  obtain ⟨hPb, hBo, hLr, hV8⟩ := id hS.1
  obtain ⟨hg, L, hR, hr⟩ := hS.2 s hs
  obtain ⟨fsr_, hRo⟩ := hR.o
  obtain ⟨hp1, hp2, hp3, hp4⟩ := rq_pre hg hr
  refine pb_aload_n C dX1_checkedRegion_0 rfl (lv_at hl 0 rfl) ?_
  refine pb_iload_n C dX1_checkedRegion_1 rfl (lv_at hl 1 rfl) ?_
  refine pb_go_x (bc' := 0) (bs' := 0) (pb_runV (rest := []) C hG (met_X1_region l b sl pv V _ G hS s hs) hBo (ci := 0) rfl (lw_V q325 q327 qs4 q51 q328) ⟨rfl, hdX1_region⟩ rfl hl.1 rfl (Nat.le_of_ble_eq_true rfl) ⟨(Nat.le_of_ble_eq_true rfl), (Nat.le_of_ble_eq_true rfl)⟩ dX1_checkedRegion_2) (by omega) (by omega) ?_
  refine pb_astore_n C dX1_checkedRegion_5 rfl hl (by decide) rfl fun ls hl => ?_
  have hl : lv_has ls 3 [(2, .ref ((nV V s))), (0, .ref (b)), (1, .int (iZ (((s : Nat) : Int))))] := hl
  refine pb_aload_n C dX1_checkedRegion_6 rfl (lv_at hl 0 rfl) ?_
  refine pb_go_x (bc' := 0) (bs' := 0) (pb_runV (rest := []) C hG (met_X2_isEmpty l (nV V s) _ L hR) hRo (ci := 1) rfl (lw_V q1338 q884 q885 q55 q886) ⟨rfl, hdX2_isEmpty⟩ rfl hl.1 rfl (Nat.le_of_ble_eq_true rfl) ⟨(Nat.le_of_ble_eq_true rfl), (Nat.le_of_ble_eq_true rfl)⟩ dX1_checkedRegion_7) (by omega) (by omega) ?_
  refine pb_ifB_ne C dX1_checkedRegion_10 (tgt := 17) (by decide) (fun c10_ => ?_) (fun c10_ => ?_)
  · have c10_ := of_decide_eq_true c10_
    exact absurd ((len_cnt hg hr).mp c10_) h0
  · have c10_ := of_decide_eq_false c10_
    refine pb_ic C dX1_checkedRegion_13 ?_
    refine pb_goto C dX1_checkedRegion_14 (tgt := 18) (by decide) ?_
    refine pb_go_n (bc' := 0) (bs' := 0) (pb_runS (rest := []) C hG (met_X1_checkElement l) (lw_S q1082 q1083 q51 q1084) hdX1_checkElement rfl hl.1 rfl (Nat.le_of_ble_eq_true rfl) ⟨(Nat.le_of_ble_eq_true rfl), (Nat.le_of_ble_eq_true rfl)⟩ dX1_checkedRegion_18) (by omega) (by omega) ?_
    refine pb_aload_n C dX1_checkedRegion_21 rfl (lv_at hl 0 rfl) ?_
    exact pb_aret C (Or.inl ⟨_, rfl⟩) dX1_checkedRegion_22 (Or.inr ⟨_, rfl⟩) (⟨rfl, rfl⟩)

set_option maxHeartbeats 1000000 in
theorem met_X1_left {w : pb_W} (l : Launch) {H0 : Heap} (b sl : Nat) (pv : Value) (V : List Nat) (P : Nat → Prop) (G : Nat → Nat → Nat) (hS0 : Sq w H0 P b sl pv V G) (s : Nat) (hs : s < 8) (xl xr xb xt : Nat) (hB : boxP (G s) xl xr xb xt) (h0 : cnt (G s) ≠ 0) : pb_M w l yX1_left cX1_left 2 (some .int) 5 (1) (4) [.ref (b), .int (iZ (((s : Nat) : Int)))] H0 (pb_qi (fun z H1 => z = ((xl : Nat) : Int) ∧ pb_F (fun q => q < H0.size) H0 H1)) := by
  refine pb_of (by decide +kernel) (Nat.le_of_ble_eq_true rfl) ?_
  intro p_ e_ s_ m_ ar_ bl_ me_ co_ ls C hh hG hl
  have hl : lv_has ls 2 [(0, .ref (b)), (1, .int (iZ (((s : Nat) : Int))))] := hl
  have hzs := hG.1
  have hS := hS0.below
  have hFF : pb_F (fun q => q < H0.size) H0 H0 := pb_F.rf
  obtain ⟨hPb, hBo, hLr, hV8⟩ := id hS.1
  obtain ⟨hg, L, hR, hr⟩ := hS.2 s hs
  obtain ⟨fsr_, hRo⟩ := hR.o
  obtain ⟨hp1, hp2, hp3, hp4⟩ := rq_pre hg hr
  have hl0 : 0 < L.length := Nat.pos_of_ne_zero (fun h9 => h0 ((len_cnt hg hr).mp h9))
  refine pb_aload_n C dX1_left_0 rfl (lv_at hl 0 rfl) ?_
  refine pb_iload_n C dX1_left_1 rfl (lv_at hl 1 rfl) ?_
  refine pb_go_x (bc' := 1) (bs' := 4) (pb_runV (rest := []) C hG (met_X1_checkedRegion l b sl pv V _ G hS s hs h0) hBo (ci := 0) rfl (lw_V q1353 q1355 qs18 q51 q1356) ⟨rfl, hdX1_checkedRegion⟩ rfl hl.1 rfl (Nat.le_of_ble_eq_true rfl) ⟨(Nat.le_of_ble_eq_true rfl), (Nat.le_of_ble_eq_true rfl)⟩ dX1_left_2) (by omega) (by omega) ?_
  refine pb_go_i (bc' := 0) (bs' := 0) (pb_runV (rest := []) C hG (met_X2_left l (nV V s) _ L hR (rq_two hr)) hRo (ci := 1) rfl (lw_V q1357 q1358 q1359 q55 q1360) ⟨rfl, hdX2_left⟩ rfl hl.1 rfl (Nat.le_of_ble_eq_true rfl) ⟨(Nat.le_of_ble_eq_true rfl), (Nat.le_of_ble_eq_true rfl)⟩ dX1_left_5) (by omega) (by omega) (fun z_ H_ hp_ => ?_)
  obtain ⟨rfl, hF1⟩ := hp_
  exact pb_iret C dX1_left_8 (⟨_, rfl, (box_law hg hr hB).1, hF1⟩)

set_option maxHeartbeats 1000000 in
theorem met_X1_right {w : pb_W} (l : Launch) {H0 : Heap} (b sl : Nat) (pv : Value) (V : List Nat) (P : Nat → Prop) (G : Nat → Nat → Nat) (hS0 : Sq w H0 P b sl pv V G) (s : Nat) (hs : s < 8) (xl xr xb xt : Nat) (hB : boxP (G s) xl xr xb xt) (h0 : cnt (G s) ≠ 0) : pb_M w l yX1_right cX1_right 2 (some .int) 5 (1) (4) [.ref (b), .int (iZ (((s : Nat) : Int)))] H0 (pb_qi (fun z H1 => z = ((xr : Nat) : Int) ∧ pb_F (fun q => q < H0.size) H0 H1)) := by
  refine pb_of (by decide +kernel) (Nat.le_of_ble_eq_true rfl) ?_
  intro p_ e_ s_ m_ ar_ bl_ me_ co_ ls C hh hG hl
  have hl : lv_has ls 2 [(0, .ref (b)), (1, .int (iZ (((s : Nat) : Int))))] := hl
  have hzs := hG.1
  have hS := hS0.below
  have hFF : pb_F (fun q => q < H0.size) H0 H0 := pb_F.rf
  obtain ⟨hPb, hBo, hLr, hV8⟩ := id hS.1
  obtain ⟨hg, L, hR, hr⟩ := hS.2 s hs
  obtain ⟨fsr_, hRo⟩ := hR.o
  obtain ⟨hp1, hp2, hp3, hp4⟩ := rq_pre hg hr
  have hl0 : 0 < L.length := Nat.pos_of_ne_zero (fun h9 => h0 ((len_cnt hg hr).mp h9))
  refine pb_aload_n C dX1_right_0 rfl (lv_at hl 0 rfl) ?_
  refine pb_iload_n C dX1_right_1 rfl (lv_at hl 1 rfl) ?_
  refine pb_go_x (bc' := 1) (bs' := 4) (pb_runV (rest := []) C hG (met_X1_checkedRegion l b sl pv V _ G hS s hs h0) hBo (ci := 0) rfl (lw_V q1353 q1355 qs18 q51 q1356) ⟨rfl, hdX1_checkedRegion⟩ rfl hl.1 rfl (Nat.le_of_ble_eq_true rfl) ⟨(Nat.le_of_ble_eq_true rfl), (Nat.le_of_ble_eq_true rfl)⟩ dX1_right_2) (by omega) (by omega) ?_
  refine pb_go_i (bc' := 0) (bs' := 0) (pb_runV (rest := []) C hG (met_X2_right l (nV V s) _ L hR (rq_two hr)) hRo (ci := 1) rfl (lw_V q1369 q1370 q1371 q55 q1372) ⟨rfl, hdX2_right⟩ rfl hl.1 rfl (Nat.le_of_ble_eq_true rfl) ⟨(Nat.le_of_ble_eq_true rfl), (Nat.le_of_ble_eq_true rfl)⟩ dX1_right_5) (by omega) (by omega) (fun z_ H_ hp_ => ?_)
  obtain ⟨rfl, hF1⟩ := hp_
  exact pb_iret C dX1_right_8 (⟨_, rfl, (box_law hg hr hB).2.1, hF1⟩)

set_option maxHeartbeats 1000000 in
theorem met_X1_bottom {w : pb_W} (l : Launch) {H0 : Heap} (b sl : Nat) (pv : Value) (V : List Nat) (P : Nat → Prop) (G : Nat → Nat → Nat) (hS0 : Sq w H0 P b sl pv V G) (s : Nat) (hs : s < 8) (xl xr xb xt : Nat) (hB : boxP (G s) xl xr xb xt) (h0 : cnt (G s) ≠ 0) : pb_M w l yX1_bottom cX1_bottom 2 (some .int) 5 (0) (0) [.ref (b), .int (iZ (((s : Nat) : Int)))] H0 (pb_qi (fun z H1 => z = ((xb : Nat) : Int) ∧ pb_F (fun q => q < H0.size) H0 H1)) := by
  refine pb_of (by decide +kernel) (Nat.le_of_ble_eq_true rfl) ?_
  intro p_ e_ s_ m_ ar_ bl_ me_ co_ ls C hh hG hl
  have hl : lv_has ls 2 [(0, .ref (b)), (1, .int (iZ (((s : Nat) : Int))))] := hl
  have hzs := hG.1
  have hS := hS0.below
  have hFF : pb_F (fun q => q < H0.size) H0 H0 := pb_F.rf
  obtain ⟨hPb, hBo, hLr, hV8⟩ := id hS.1
  obtain ⟨hg, L, hR, hr⟩ := hS.2 s hs
  obtain ⟨fsr_, hRo⟩ := hR.o
  obtain ⟨hp1, hp2, hp3, hp4⟩ := rq_pre hg hr
  have hl0 : 0 < L.length := Nat.pos_of_ne_zero (fun h9 => h0 ((len_cnt hg hr).mp h9))
  refine pb_aload_n C dX1_bottom_0 rfl (lv_at hl 0 rfl) ?_
  refine pb_iload_n C dX1_bottom_1 rfl (lv_at hl 1 rfl) ?_
  refine pb_go_x (bc' := 0) (bs' := 0) (pb_runV (rest := []) C hG (met_X1_checkedRegion l b sl pv V _ G hS s hs h0) hBo (ci := 0) rfl (lw_V q1353 q1355 qs18 q51 q1356) ⟨rfl, hdX1_checkedRegion⟩ rfl hl.1 rfl (Nat.le_of_ble_eq_true rfl) ⟨(Nat.le_of_ble_eq_true rfl), (Nat.le_of_ble_eq_true rfl)⟩ dX1_bottom_2) (by omega) (by omega) ?_
  refine pb_go_x (bc' := 0) (bs' := 0) (pb_runV (rest := []) C hG (met_X2_bottom l (nV V s) _ L hR hl0) hRo (ci := 1) rfl (lw_V q1381 q1382 q1383 q55 q1384) ⟨rfl, hdX2_bottom⟩ rfl hl.1 rfl (Nat.le_of_ble_eq_true rfl) ⟨(Nat.le_of_ble_eq_true rfl), (Nat.le_of_ble_eq_true rfl)⟩ dX1_bottom_5) (by omega) (by omega) ?_
  exact pb_iret C dX1_bottom_8 (⟨_, rfl, (box_law hg hr hB).2.2.1, pb_F.rf⟩)

set_option maxHeartbeats 1000000 in
theorem met_X1_top {w : pb_W} (l : Launch) {H0 : Heap} (b sl : Nat) (pv : Value) (V : List Nat) (P : Nat → Prop) (G : Nat → Nat → Nat) (hS0 : Sq w H0 P b sl pv V G) (s : Nat) (hs : s < 8) (xl xr xb xt : Nat) (hB : boxP (G s) xl xr xb xt) (h0 : cnt (G s) ≠ 0) : pb_M w l yX1_top cX1_top 2 (some .int) 5 (0) (0) [.ref (b), .int (iZ (((s : Nat) : Int)))] H0 (pb_qi (fun z H1 => z = ((xt : Nat) : Int) ∧ pb_F (fun q => q < H0.size) H0 H1)) := by
  refine pb_of (by decide +kernel) (Nat.le_of_ble_eq_true rfl) ?_
  intro p_ e_ s_ m_ ar_ bl_ me_ co_ ls C hh hG hl
  have hl : lv_has ls 2 [(0, .ref (b)), (1, .int (iZ (((s : Nat) : Int))))] := hl
  have hzs := hG.1
  have hS := hS0.below
  have hFF : pb_F (fun q => q < H0.size) H0 H0 := pb_F.rf
  obtain ⟨hPb, hBo, hLr, hV8⟩ := id hS.1
  obtain ⟨hg, L, hR, hr⟩ := hS.2 s hs
  obtain ⟨fsr_, hRo⟩ := hR.o
  obtain ⟨hp1, hp2, hp3, hp4⟩ := rq_pre hg hr
  have hl0 : 0 < L.length := Nat.pos_of_ne_zero (fun h9 => h0 ((len_cnt hg hr).mp h9))
  refine pb_aload_n C dX1_top_0 rfl (lv_at hl 0 rfl) ?_
  refine pb_iload_n C dX1_top_1 rfl (lv_at hl 1 rfl) ?_
  refine pb_go_x (bc' := 0) (bs' := 0) (pb_runV (rest := []) C hG (met_X1_checkedRegion l b sl pv V _ G hS s hs h0) hBo (ci := 0) rfl (lw_V q1353 q1355 qs18 q51 q1356) ⟨rfl, hdX1_checkedRegion⟩ rfl hl.1 rfl (Nat.le_of_ble_eq_true rfl) ⟨(Nat.le_of_ble_eq_true rfl), (Nat.le_of_ble_eq_true rfl)⟩ dX1_top_2) (by omega) (by omega) ?_
  refine pb_go_x (bc' := 0) (bs' := 0) (pb_runV (rest := []) C hG (met_X2_top l (nV V s) _ L hR hl0) hRo (ci := 1) rfl (lw_V q1392 q888 q889 q55 q890) ⟨rfl, hdX2_top⟩ rfl hl.1 rfl (Nat.le_of_ble_eq_true rfl) ⟨(Nat.le_of_ble_eq_true rfl), (Nat.le_of_ble_eq_true rfl)⟩ dX1_top_5) (by omega) (by omega) ?_
  exact pb_iret C dX1_top_8 (⟨_, rfl, (box_law hg hr hB).2.2.2, pb_F.rf⟩)

set_option maxHeartbeats 1000000 in
theorem met_X1_partCountByCells {w : pb_W} (l : Launch) {H0 : Heap} (b sl : Nat) (pv : Value) (V : List Nat) (P : Nat → Prop) (G : Nat → Nat → Nat) (hS0 : Sq w H0 P b sl pv V G) (s : Nat) (hs : s < 8) : pb_M w l yX1_partCountByCells cX1_partCountByCells 2 (some .int) 5 (2906) (55993) [.ref (b), .int (iZ (((s : Nat) : Int)))] H0 (pb_qi (fun z H1 => z = ((ctP (G s) false 600 : Nat) : Int) ∧ pb_F (fun q => q < H0.size) H0 H1)) := by
  refine pb_of (by decide +kernel) (Nat.le_of_ble_eq_true rfl) ?_
  intro p_ e_ s_ m_ ar_ bl_ me_ co_ ls C hh hG hl
  have hl : lv_has ls 2 [(0, .ref (b)), (1, .int (iZ (((s : Nat) : Int))))] := hl
  have hzs := hG.1
  have hS := hS0.below
  have hFF : pb_F (fun q => q < H0.size) H0 H0 := pb_F.rf
  obtain ⟨hPb, hBo, hLr, hV8⟩ := id hS.1
  obtain ⟨hg, L, hR, hr⟩ := hS.2 s hs
  obtain ⟨fsr_, hRo⟩ := hR.o
  obtain ⟨hp1, hp2, hp3, hp4⟩ := rq_pre hg hr
  refine pb_aload_n C dX1_partCountByCells_0 rfl (lv_at hl 0 rfl) ?_
  refine pb_iload_n C dX1_partCountByCells_1 rfl (lv_at hl 1 rfl) ?_
  refine pb_go_x (bc' := 2906) (bs' := 55993) (pb_runV (rest := []) C hG (met_X1_region l b sl pv V _ G hS s hs) hBo (ci := 0) rfl (lw_V q325 q327 qs4 q51 q328) ⟨rfl, hdX1_region⟩ rfl hl.1 rfl (Nat.le_of_ble_eq_true rfl) ⟨(Nat.le_of_ble_eq_true rfl), (Nat.le_of_ble_eq_true rfl)⟩ dX1_partCountByCells_2) (by omega) (by omega) ?_
  refine pb_go_r (bc' := 2880) (bs' := 55872) (pb_runS (rest := []) C hG (met_X12_of l (nV V s) _ L hR hp3 (row_le hr.1)) (lw_S q971 q972 q82 q973) hdX12_of rfl hl.1 rfl (Nat.le_of_ble_eq_true rfl) ⟨(Nat.le_of_ble_eq_true rfl), (Nat.le_of_ble_eq_true rfl)⟩ dX1_partCountByCells_5) (by omega) (by omega) (fun c H_ hp_ => ?_)
  obtain ⟨hC, hF1⟩ := hp_
  rw [ofG_law hg hr] at hC
  have hG := hG.kept (hF1.mono (fun q _ (hq : q < w.2.2.2) => show q < _ from by omega))
  have hQ := hC.q
  obtain ⟨fsc_, hCo⟩ := hQ.o
  have hFF := hFF.tr hF1
  have hcz := hC.1
  have hclt := hC.2.2.1.lt
  have hrlt := hC.2.2.2.1.lt
  have hpg := popG_le (G s)
  have hcz : w.2.2.2 ≤ H0.size := by omega
  refine pb_ic C dX1_partCountByCells_8 ?_
  refine pb_go_i (bc' := 2880 - (5 * popG (G s))) (bs' := 55872 - (97 * popG (G s))) (pb_runV (rest := []) C hG (met_X12_countParts l _ c _ (G s) false hC hcz) hCo (ci := 11) rfl (lw_V q1213 q1214 q1215 q82 q1216) ⟨rfl, hdX12_countParts⟩ rfl hl.1 rfl (Nat.le_of_ble_eq_true rfl) ⟨(Nat.le_of_ble_eq_true rfl), (Nat.le_of_ble_eq_true rfl)⟩ dX1_partCountByCells_9) (by omega) (by omega) (fun z_ H_ hp_ => ?_)
  obtain ⟨rfl, hF1⟩ := hp_
  exact pb_iret C dX1_partCountByCells_12 (⟨_, rfl, rfl, hFF.tr (hF1.mono (fun q _ (hq : q < H0.size) => ⟨by omega, by omega⟩))⟩)

set_option maxHeartbeats 1000000 in
theorem met_X1_holeCountByCells {w : pb_W} (l : Launch) {H0 : Heap} (b sl : Nat) (pv : Value) (V : List Nat) (P : Nat → Prop) (G : Nat → Nat → Nat) (hS0 : Sq w H0 P b sl pv V G) (s : Nat) (hs : s < 8) : pb_M w l yX1_holeCountByCells cX1_holeCountByCells 2 (some .int) 5 (2908) (56018) [.ref (b), .int (iZ (((s : Nat) : Int)))] H0 (pb_qi (fun z H1 => z = ((ctP (otG (G s) 24) true 600 : Nat) : Int) ∧ pb_F (fun q => q < H0.size) H0 H1)) := by
  refine pb_of (by decide +kernel) (Nat.le_of_ble_eq_true rfl) ?_
  intro p_ e_ s_ m_ ar_ bl_ me_ co_ ls C hh hG hl
  have hl : lv_has ls 2 [(0, .ref (b)), (1, .int (iZ (((s : Nat) : Int))))] := hl
  have hzs := hG.1
  have hS := hS0.below
  have hFF : pb_F (fun q => q < H0.size) H0 H0 := pb_F.rf
  obtain ⟨hPb, hBo, hLr, hV8⟩ := id hS.1
  obtain ⟨hg, L, hR, hr⟩ := hS.2 s hs
  obtain ⟨fsr_, hRo⟩ := hR.o
  obtain ⟨hp1, hp2, hp3, hp4⟩ := rq_pre hg hr
  refine pb_aload_n C dX1_holeCountByCells_0 rfl (lv_at hl 0 rfl) ?_
  refine pb_iload_n C dX1_holeCountByCells_1 rfl (lv_at hl 1 rfl) ?_
  refine pb_go_x (bc' := 2908) (bs' := 56018) (pb_runV (rest := []) C hG (met_X1_region l b sl pv V _ G hS s hs) hBo (ci := 0) rfl (lw_V q325 q327 qs4 q51 q328) ⟨rfl, hdX1_region⟩ rfl hl.1 rfl (Nat.le_of_ble_eq_true rfl) ⟨(Nat.le_of_ble_eq_true rfl), (Nat.le_of_ble_eq_true rfl)⟩ dX1_holeCountByCells_2) (by omega) (by omega) ?_
  refine pb_go_r (bc' := 2882) (bs' := 55897) (pb_runS (rest := []) C hG (met_X12_of l (nV V s) _ L hR hp3 (row_le hr.1)) (lw_S q971 q972 q82 q973) hdX12_of rfl hl.1 rfl (Nat.le_of_ble_eq_true rfl) ⟨(Nat.le_of_ble_eq_true rfl), (Nat.le_of_ble_eq_true rfl)⟩ dX1_holeCountByCells_5) (by omega) (by omega) (fun c H_ hp_ => ?_)
  obtain ⟨hC, hF1⟩ := hp_
  rw [ofG_law hg hr] at hC
  have hG := hG.kept (hF1.mono (fun q _ (hq : q < w.2.2.2) => show q < _ from by omega))
  have hQ := hC.q
  obtain ⟨fsc_, hCo⟩ := hQ.o
  have hFF := hFF.tr hF1
  have hcz := hC.1
  have hclt := hC.2.2.1.lt
  have hrlt := hC.2.2.2.1.lt
  refine pb_go_r (bc' := 2880) (bs' := 55872) (pb_runV (rest := []) C hG (met_X12_others l c _ (G s) hQ) hCo (ci := 11) rfl (lw_V q988 q989 q990 q82 q991) ⟨rfl, hdX12_others⟩ rfl hl.1 rfl (Nat.le_of_ble_eq_true rfl) ⟨(Nat.le_of_ble_eq_true rfl), (Nat.le_of_ble_eq_true rfl)⟩ dX1_holeCountByCells_8) (by omega) (by omega) (fun c1 H2 hp_ => ?_)
  obtain ⟨hC1, hF1⟩ := hp_
  have hG := hG.kept (hF1.mono (fun q _ (hq : q < w.2.2.2) => show q < _ from by omega))
  obtain ⟨fsc1_, hCo1⟩ := hC1.q.o
  have hFF := hFF.tr (hF1.mono (fun q _ (hq : q < H0.size) => show q < _ from by omega))
  have hcz1 := hC1.1
  have hs9 := hF1.1
  have hpg := popG_le (otG (G s) 24)
  have hcz : w.2.2.2 ≤ H_.size := by omega
  refine pb_ic C dX1_holeCountByCells_11 ?_
  refine pb_go_i (bc' := 2880 - (5 * popG (otG (G s) 24))) (bs' := 55872 - (97 * popG (otG (G s) 24))) (pb_runV (rest := []) C hG (met_X12_countParts l _ c1 _ (otG (G s) 24) true hC1 hcz) hCo1 (ci := 11) rfl (lw_V q1213 q1214 q1215 q82 q1216) ⟨rfl, hdX12_countParts⟩ rfl hl.1 rfl (Nat.le_of_ble_eq_true rfl) ⟨(Nat.le_of_ble_eq_true rfl), (Nat.le_of_ble_eq_true rfl)⟩ dX1_holeCountByCells_12) (by omega) (by omega) (fun z_ H3 hp_ => ?_)
  obtain ⟨rfl, hF1⟩ := hp_
  exact pb_iret C dX1_holeCountByCells_15 (⟨_, rfl, rfl, hFF.tr (hF1.mono (fun q _ (hq : q < H0.size) => ⟨by omega, by omega⟩))⟩)

set_option maxHeartbeats 1000000 in
theorem met_X1_largestRectangleByCells {w : pb_W} (l : Launch) {H0 : Heap} (b sl : Nat) (pv : Value) (V : List Nat) (P : Nat → Prop) (G : Nat → Nat → Nat) (hS0 : Sq w H0 P b sl pv V G) (s : Nat) (hs : s < 8) : pb_M w l yX1_largestRectangleByCells cX1_largestRectangleByCells 2 (some .int) 7 (867) (58970) [.ref (b), .int (iZ (((s : Nat) : Int)))] H0 (pb_qi (fun z H1 => z = ((larR (G s) : Nat) : Int) ∧ pb_F (fun q => q < H0.size) H0 H1)) := by
  refine pb_of (by decide +kernel) (Nat.le_of_ble_eq_true rfl) ?_
  intro p_ e_ s_ m_ ar_ bl_ me_ co_ ls C hh hG hl
  have hl : lv_has ls 2 [(0, .ref (b)), (1, .int (iZ (((s : Nat) : Int))))] := hl
  have hzs := hG.1
  have hS := hS0.below
  have hFF : pb_F (fun q => q < H0.size) H0 H0 := pb_F.rf
  obtain ⟨hPb, hBo, hLr, hV8⟩ := id hS.1
  obtain ⟨hg, L, hR, hr⟩ := hS.2 s hs
  obtain ⟨fsr_, hRo⟩ := hR.o
  obtain ⟨hp1, hp2, hp3, hp4⟩ := rq_pre hg hr
  refine pb_aload_n C dX1_largestRectangleByCells_0 rfl (lv_at hl 0 rfl) ?_
  refine pb_iload_n C dX1_largestRectangleByCells_1 rfl (lv_at hl 1 rfl) ?_
  refine pb_go_x (bc' := 867) (bs' := 58970) (pb_runV (rest := []) C hG (met_X1_region l b sl pv V _ G hS s hs) hBo (ci := 0) rfl (lw_V q325 q327 qs4 q51 q328) ⟨rfl, hdX1_region⟩ rfl hl.1 rfl (Nat.le_of_ble_eq_true rfl) ⟨(Nat.le_of_ble_eq_true rfl), (Nat.le_of_ble_eq_true rfl)⟩ dX1_largestRectangleByCells_2) (by omega) (by omega) ?_
  refine pb_go_r (bc' := 841) (bs' := 58849) (pb_runS (rest := []) C hG (met_X12_of l (nV V s) _ L hR hp3 (row_le hr.1)) (lw_S q971 q972 q82 q973) hdX12_of rfl hl.1 rfl (Nat.le_of_ble_eq_true rfl) ⟨(Nat.le_of_ble_eq_true rfl), (Nat.le_of_ble_eq_true rfl)⟩ dX1_largestRectangleByCells_5) (by omega) (by omega) (fun c H_ hp_ => ?_)
  obtain ⟨hC, hF1⟩ := hp_
  rw [ofG_law hg hr] at hC
  have hG := hG.kept (hF1.mono (fun q _ (hq : q < w.2.2.2) => show q < _ from by omega))
  have hQ := hC.q
  obtain ⟨fsc_, hCo⟩ := hQ.o
  have hFF := hFF.tr hF1
  have hcz := hC.1
  have hclt := hC.2.2.1.lt
  have hrlt := hC.2.2.2.1.lt
  refine pb_go_i (bc' := 0) (bs' := 0) (pb_runV (rest := []) C hG (met_X12_largestRectangle l c _ (G s) hQ) hCo (ci := 11) rfl (lw_V q1442 q1443 q1444 q82 q1445) ⟨rfl, hdX12_largestRectangle⟩ rfl hl.1 rfl (Nat.le_of_ble_eq_true rfl) ⟨(Nat.le_of_ble_eq_true rfl), (Nat.le_of_ble_eq_true rfl)⟩ dX1_largestRectangleByCells_8) (by omega) (by omega) (fun z_ H_ hp_ => ?_)
  obtain ⟨rfl, hF1⟩ := hp_
  exact pb_iret C dX1_largestRectangleByCells_11 (⟨_, rfl, by rw [lrM_law hg], hFF.tr (hF1.mono (fun q _ (hq : q < H0.size) => show q < _ from by omega))⟩)

set_option maxHeartbeats 1000000 in
theorem met_X1_largestSquareByCells {w : pb_W} (l : Launch) {H0 : Heap} (b sl : Nat) (pv : Value) (V : List Nat) (P : Nat → Prop) (G : Nat → Nat → Nat) (hS0 : Sq w H0 P b sl pv V G) (s : Nat) (hs : s < 8) : pb_M w l yX1_largestSquareByCells cX1_largestSquareByCells 2 (some .int) 7 (27) (146) [.ref (b), .int (iZ (((s : Nat) : Int)))] H0 (pb_qi (fun z H1 => z = ((larS (G s) : Nat) : Int) ∧ pb_F (fun q => q < H0.size) H0 H1)) := by
  refine pb_of (by decide +kernel) (Nat.le_of_ble_eq_true rfl) ?_
  intro p_ e_ s_ m_ ar_ bl_ me_ co_ ls C hh hG hl
  have hl : lv_has ls 2 [(0, .ref (b)), (1, .int (iZ (((s : Nat) : Int))))] := hl
  have hzs := hG.1
  have hS := hS0.below
  have hFF : pb_F (fun q => q < H0.size) H0 H0 := pb_F.rf
  obtain ⟨hPb, hBo, hLr, hV8⟩ := id hS.1
  obtain ⟨hg, L, hR, hr⟩ := hS.2 s hs
  obtain ⟨fsr_, hRo⟩ := hR.o
  obtain ⟨hp1, hp2, hp3, hp4⟩ := rq_pre hg hr
  refine pb_aload_n C dX1_largestSquareByCells_0 rfl (lv_at hl 0 rfl) ?_
  refine pb_iload_n C dX1_largestSquareByCells_1 rfl (lv_at hl 1 rfl) ?_
  refine pb_go_x (bc' := 27) (bs' := 146) (pb_runV (rest := []) C hG (met_X1_region l b sl pv V _ G hS s hs) hBo (ci := 0) rfl (lw_V q325 q327 qs4 q51 q328) ⟨rfl, hdX1_region⟩ rfl hl.1 rfl (Nat.le_of_ble_eq_true rfl) ⟨(Nat.le_of_ble_eq_true rfl), (Nat.le_of_ble_eq_true rfl)⟩ dX1_largestSquareByCells_2) (by omega) (by omega) ?_
  refine pb_go_r (bc' := 1) (bs' := 25) (pb_runS (rest := []) C hG (met_X12_of l (nV V s) _ L hR hp3 (row_le hr.1)) (lw_S q971 q972 q82 q973) hdX12_of rfl hl.1 rfl (Nat.le_of_ble_eq_true rfl) ⟨(Nat.le_of_ble_eq_true rfl), (Nat.le_of_ble_eq_true rfl)⟩ dX1_largestSquareByCells_5) (by omega) (by omega) (fun c H_ hp_ => ?_)
  obtain ⟨hC, hF1⟩ := hp_
  rw [ofG_law hg hr] at hC
  have hG := hG.kept (hF1.mono (fun q _ (hq : q < w.2.2.2) => show q < _ from by omega))
  have hQ := hC.q
  obtain ⟨fsc_, hCo⟩ := hQ.o
  have hFF := hFF.tr hF1
  have hcz := hC.1
  have hclt := hC.2.2.1.lt
  have hrlt := hC.2.2.2.1.lt
  refine pb_go_i (bc' := 0) (bs' := 0) (pb_runV (rest := []) C hG (met_X12_largestSquare l c _ (G s) hQ) hCo (ci := 11) rfl (lw_V q1536 q1537 q1538 q82 q1539) ⟨rfl, hdX12_largestSquare⟩ rfl hl.1 rfl (Nat.le_of_ble_eq_true rfl) ⟨(Nat.le_of_ble_eq_true rfl), (Nat.le_of_ble_eq_true rfl)⟩ dX1_largestSquareByCells_8) (by omega) (by omega) (fun z_ H_ hp_ => ?_)
  obtain ⟨rfl, hF1⟩ := hp_
  exact pb_iret C dX1_largestSquareByCells_11 (⟨_, rfl, by rw [sq_law hg], hFF.tr (hF1.mono (fun q _ (hq : q < H0.size) => show q < _ from by omega))⟩)

set_option maxHeartbeats 1000000 in
theorem met_X1_contains {w : pb_W} (l : Launch) {H0 : Heap} (b sl : Nat) (pv : Value) (V : List Nat) (P : Nat → Prop) (G : Nat → Nat → Nat) (hS0 : Sq w H0 P b sl pv V G) (s : Nat) (hs : s < 8) (x y : Int) (hx : 0 ≤ x ∧ x ≤ 23) (hy : 0 ≤ y ∧ y ≤ 23) : pb_M w l yX1_contains cX1_contains 5 (some .boolean) 5 (1) (4) [.ref (b), .int (iZ (((s : Nat) : Int))), .int (iZ (x)), .int (iZ (y))] H0 (pb_qi (fun z H1 => z = bI (gc (G s) x y) ∧ pb_F (fun q => q < H0.size) H0 H1)) := by
  refine pb_of (by decide +kernel) (Nat.le_of_ble_eq_true rfl) ?_
  intro p_ e_ s_ m_ ar_ bl_ me_ co_ ls C hh hG hl
  have hl : lv_has ls 5 [(0, .ref (b)), (1, .int (iZ (((s : Nat) : Int)))), (2, .int (iZ (x))), (3, .int (iZ (y)))] := hl
  have hzs := hG.1
  have hS := hS0.below
  have hFF : pb_F (fun q => q < H0.size) H0 H0 := pb_F.rf
  obtain ⟨hPb, hBo, hLr, hV8⟩ := id hS.1
  obtain ⟨hg, L, hR, hr⟩ := hS.2 s hs
  obtain ⟨fsr_, hRo⟩ := hR.o
  obtain ⟨hp1, hp2, hp3, hp4⟩ := rq_pre hg hr
  refine pb_aload_n C dX1_contains_0 rfl (lv_at hl 0 rfl) ?_
  refine pb_iload_n C dX1_contains_1 rfl (lv_at hl 1 rfl) ?_
  refine pb_go_x (bc' := 1) (bs' := 4) (pb_runV (rest := []) C hG (met_X1_region l b sl pv V _ G hS s hs) hBo (ci := 0) rfl (lw_V q325 q327 qs4 q51 q328) ⟨rfl, hdX1_region⟩ rfl hl.1 rfl (Nat.le_of_ble_eq_true rfl) ⟨(Nat.le_of_ble_eq_true rfl), (Nat.le_of_ble_eq_true rfl)⟩ dX1_contains_2) (by omega) (by omega) ?_
  refine pb_astore C dX1_contains_5 hl (by decide) rfl fun ls hl => ?_
  have hl : lv_has ls 5 [(4, .ref ((nV V s))), (0, .ref (b)), (1, .int (iZ (((s : Nat) : Int)))), (2, .int (iZ (x))), (3, .int (iZ (y)))] := hl
  refine pb_iload_n C dX1_contains_7 rfl (lv_at hl 3 rfl) ?_
  refine pb_iload_n C dX1_contains_8 rfl (lv_at hl 4 rfl) ?_
  refine pb_go_x (bc' := 1) (bs' := 4) (pb_runS (rest := []) C hG (met_X1_isCell l x y (by omega) (by omega)) (lw_S q1050 q1038 q51 q1039) hdX1_isCell rfl hl.1 rfl (Nat.le_of_ble_eq_true rfl) ⟨(Nat.le_of_ble_eq_true rfl), (Nat.le_of_ble_eq_true rfl)⟩ dX1_contains_9) (by omega) (by omega) ?_
  refine pb_eq (g2 := F0 m_ 12 ls [.int (iZ (1))]) (congrArg (fun z9 => F0 m_ 12 ls [.int (iZ z9)]) (show (bI ((decide (0 ≤ x ∧ x ≤ 23) && decide (0 ≤ y ∧ y ≤ 23)))) = 1 from (by rw [decide_eq_true hx, decide_eq_true hy]; rfl))) ?_
  refine pb_go_n (bc' := 1) (bs' := 4) (pb_runS (rest := []) C hG (met_X1_checkArgument l) (lw_S q381 q382 q51 q383) hdX1_checkArgument rfl hl.1 rfl (Nat.le_of_ble_eq_true rfl) ⟨(Nat.le_of_ble_eq_true rfl), (Nat.le_of_ble_eq_true rfl)⟩ dX1_contains_12) (by omega) (by omega) ?_
  refine pb_aload C dX1_contains_15 (lv_at hl 0 rfl) ?_
  refine pb_iload_n C dX1_contains_17 rfl (lv_at hl 3 rfl) ?_
  refine pb_iload_n C dX1_contains_18 rfl (lv_at hl 4 rfl) ?_
  refine pb_go_i (bc' := 0) (bs' := 0) (pb_runV (rest := []) C hG (met_X2_contains l (nV V s) _ L hR x y (by omega) (by omega)) hRo (ci := 1) rfl (lw_V q1108 q1109 q1110 q55 q1111) ⟨rfl, hdX2_contains⟩ rfl hl.1 rfl (Nat.le_of_ble_eq_true rfl) ⟨(Nat.le_of_ble_eq_true rfl), (Nat.le_of_ble_eq_true rfl)⟩ dX1_contains_19) (by omega) (by omega) (fun z_ H_ hp_ => ?_)
  obtain ⟨rfl, hF1⟩ := hp_
  exact pb_zret C dX1_contains_22 (pb_nar ((inE (rowL L y) x ((rowL L y).length / 2)))) (⟨_, rfl, congrArg bI (hr.2 x y), hF1⟩)

