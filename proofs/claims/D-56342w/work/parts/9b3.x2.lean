set_option maxRecDepth 100000
set_option maxHeartbeats 1000000 in
theorem mex_X1_clear_1 {w : pb_W} (l : Launch) {H : Heap} (hlx : l.stackTraces = false) (b : Nat) (fs : List Value) (hBo : pb_R w H b 0 fs) (s : Int) (hs : -2147483648 ≤ s ∧ s ≤ 2147483647) (bs : ¬ (0 ≤ s ∧ s ≤ 7))  : pb_X w l yX1_clear cX1_clear 3 (some .int) 7 (2) (10) [.ref (b), .int (iZ (s))] H (RJ9) := by
  refine pb_ofX (by decide +kernel) (Nat.le_of_ble_eq_true rfl) ?_
  intro p_ e_ s_ m_ ar_ bl_ me_ co_ ls C hh hG hl hT
  have hG0 := hG
  have hF : pb_F (fun _ => True) H H := pb_F.rf
  have hl : lv_has ls 3 [(0, .ref (b)), (1, .int (iZ (s)))] := hl
  refine pb_aload_n C dX1_clear_0 rfl (lv_at hl 0 rfl) ?_
  refine pb_iload_n C dX1_clear_1 rfl (lv_at hl 1 rfl) ?_
  exact pb_outX C hF hT (pb_runVX (rest := []) C hG (mex_X1_region l hlx b s hs bs) hBo (ci := 0) rfl (lw_V q325 q327 qs4 q51 q328) ⟨rfl, hdX1_region⟩ rfl hl.1 rfl (Nat.le_of_ble_eq_true rfl) ⟨(Nat.le_of_ble_eq_true rfl), (Nat.le_of_ble_eq_true rfl)⟩ dX1_clear_2) (by omega) (by omega)

set_option maxHeartbeats 1000000 in
theorem mex_X1_area_1 {w : pb_W} (l : Launch) {H : Heap} (hlx : l.stackTraces = false) (b : Nat) (fs : List Value) (hBo : pb_R w H b 0 fs) (s : Int) (hs : -2147483648 ≤ s ∧ s ≤ 2147483647) (bs : ¬ (0 ≤ s ∧ s ≤ 7))  : pb_X w l yX1_area cX1_area 2 (some .int) 7 (2) (10) [.ref (b), .int (iZ (s))] H (RJ9) := by
  refine pb_ofX (by decide +kernel) (Nat.le_of_ble_eq_true rfl) ?_
  intro p_ e_ s_ m_ ar_ bl_ me_ co_ ls C hh hG hl hT
  have hG0 := hG
  have hF : pb_F (fun _ => True) H H := pb_F.rf
  have hl : lv_has ls 2 [(0, .ref (b)), (1, .int (iZ (s)))] := hl
  refine pb_aload_n C dX1_area_0 rfl (lv_at hl 0 rfl) ?_
  refine pb_iload_n C dX1_area_1 rfl (lv_at hl 1 rfl) ?_
  exact pb_outX C hF hT (pb_runVX (rest := []) C hG (mex_X1_region l hlx b s hs bs) hBo (ci := 0) rfl (lw_V q325 q327 qs4 q51 q328) ⟨rfl, hdX1_region⟩ rfl hl.1 rfl (Nat.le_of_ble_eq_true rfl) ⟨(Nat.le_of_ble_eq_true rfl), (Nat.le_of_ble_eq_true rfl)⟩ dX1_area_2) (by omega) (by omega)

set_option maxHeartbeats 1000000 in
theorem mex_X1_areaByCells_1 {w : pb_W} (l : Launch) {H : Heap} (hlx : l.stackTraces = false) (b : Nat) (fs : List Value) (hBo : pb_R w H b 0 fs) (s : Int) (hs : -2147483648 ≤ s ∧ s ≤ 2147483647) (bs : ¬ (0 ≤ s ∧ s ≤ 7))  : pb_X w l yX1_areaByCells cX1_areaByCells 2 (some .int) 7 (2) (10) [.ref (b), .int (iZ (s))] H (RJ9) := by
  refine pb_ofX (by decide +kernel) (Nat.le_of_ble_eq_true rfl) ?_
  intro p_ e_ s_ m_ ar_ bl_ me_ co_ ls C hh hG hl hT
  have hG0 := hG
  have hF : pb_F (fun _ => True) H H := pb_F.rf
  have hl : lv_has ls 2 [(0, .ref (b)), (1, .int (iZ (s)))] := hl
  refine pb_aload_n C dX1_areaByCells_0 rfl (lv_at hl 0 rfl) ?_
  refine pb_iload_n C dX1_areaByCells_1 rfl (lv_at hl 1 rfl) ?_
  exact pb_outX C hF hT (pb_runVX (rest := []) C hG (mex_X1_region l hlx b s hs bs) hBo (ci := 0) rfl (lw_V q325 q327 qs4 q51 q328) ⟨rfl, hdX1_region⟩ rfl hl.1 rfl (Nat.le_of_ble_eq_true rfl) ⟨(Nat.le_of_ble_eq_true rfl), (Nat.le_of_ble_eq_true rfl)⟩ dX1_areaByCells_2) (by omega) (by omega)

set_option maxHeartbeats 1000000 in
theorem mex_X1_perimeter_1 {w : pb_W} (l : Launch) {H : Heap} (hlx : l.stackTraces = false) (b : Nat) (fs : List Value) (hBo : pb_R w H b 0 fs) (s : Int) (hs : -2147483648 ≤ s ∧ s ≤ 2147483647) (bs : ¬ (0 ≤ s ∧ s ≤ 7))  : pb_X w l yX1_perimeter cX1_perimeter 2 (some .int) 7 (2) (10) [.ref (b), .int (iZ (s))] H (RJ9) := by
  refine pb_ofX (by decide +kernel) (Nat.le_of_ble_eq_true rfl) ?_
  intro p_ e_ s_ m_ ar_ bl_ me_ co_ ls C hh hG hl hT
  have hG0 := hG
  have hF : pb_F (fun _ => True) H H := pb_F.rf
  have hl : lv_has ls 2 [(0, .ref (b)), (1, .int (iZ (s)))] := hl
  refine pb_aload_n C dX1_perimeter_0 rfl (lv_at hl 0 rfl) ?_
  refine pb_iload_n C dX1_perimeter_1 rfl (lv_at hl 1 rfl) ?_
  exact pb_outX C hF hT (pb_runVX (rest := []) C hG (mex_X1_region l hlx b s hs bs) hBo (ci := 0) rfl (lw_V q325 q327 qs4 q51 q328) ⟨rfl, hdX1_region⟩ rfl hl.1 rfl (Nat.le_of_ble_eq_true rfl) ⟨(Nat.le_of_ble_eq_true rfl), (Nat.le_of_ble_eq_true rfl)⟩ dX1_perimeter_2) (by omega) (by omega)

set_option maxHeartbeats 1000000 in
theorem mex_X1_perimeterByCells_1 {w : pb_W} (l : Launch) {H : Heap} (hlx : l.stackTraces = false) (b : Nat) (fs : List Value) (hBo : pb_R w H b 0 fs) (s : Int) (hs : -2147483648 ≤ s ∧ s ≤ 2147483647) (bs : ¬ (0 ≤ s ∧ s ≤ 7))  : pb_X w l yX1_perimeterByCells cX1_perimeterByCells 2 (some .int) 7 (2) (10) [.ref (b), .int (iZ (s))] H (RJ9) := by
  refine pb_ofX (by decide +kernel) (Nat.le_of_ble_eq_true rfl) ?_
  intro p_ e_ s_ m_ ar_ bl_ me_ co_ ls C hh hG hl hT
  have hG0 := hG
  have hF : pb_F (fun _ => True) H H := pb_F.rf
  have hl : lv_has ls 2 [(0, .ref (b)), (1, .int (iZ (s)))] := hl
  refine pb_aload_n C dX1_perimeterByCells_0 rfl (lv_at hl 0 rfl) ?_
  refine pb_iload_n C dX1_perimeterByCells_1 rfl (lv_at hl 1 rfl) ?_
  exact pb_outX C hF hT (pb_runVX (rest := []) C hG (mex_X1_region l hlx b s hs bs) hBo (ci := 0) rfl (lw_V q325 q327 qs4 q51 q328) ⟨rfl, hdX1_region⟩ rfl hl.1 rfl (Nat.le_of_ble_eq_true rfl) ⟨(Nat.le_of_ble_eq_true rfl), (Nat.le_of_ble_eq_true rfl)⟩ dX1_perimeterByCells_2) (by omega) (by omega)

set_option maxHeartbeats 1000000 in
theorem mex_X1_bandCount_1 {w : pb_W} (l : Launch) {H : Heap} (hlx : l.stackTraces = false) (b : Nat) (fs : List Value) (hBo : pb_R w H b 0 fs) (s : Int) (hs : -2147483648 ≤ s ∧ s ≤ 2147483647) (bs : ¬ (0 ≤ s ∧ s ≤ 7))  : pb_X w l yX1_bandCount cX1_bandCount 2 (some .int) 7 (2) (10) [.ref (b), .int (iZ (s))] H (RJ9) := by
  refine pb_ofX (by decide +kernel) (Nat.le_of_ble_eq_true rfl) ?_
  intro p_ e_ s_ m_ ar_ bl_ me_ co_ ls C hh hG hl hT
  have hG0 := hG
  have hF : pb_F (fun _ => True) H H := pb_F.rf
  have hl : lv_has ls 2 [(0, .ref (b)), (1, .int (iZ (s)))] := hl
  refine pb_aload_n C dX1_bandCount_0 rfl (lv_at hl 0 rfl) ?_
  refine pb_iload_n C dX1_bandCount_1 rfl (lv_at hl 1 rfl) ?_
  exact pb_outX C hF hT (pb_runVX (rest := []) C hG (mex_X1_region l hlx b s hs bs) hBo (ci := 0) rfl (lw_V q325 q327 qs4 q51 q328) ⟨rfl, hdX1_region⟩ rfl hl.1 rfl (Nat.le_of_ble_eq_true rfl) ⟨(Nat.le_of_ble_eq_true rfl), (Nat.le_of_ble_eq_true rfl)⟩ dX1_bandCount_2) (by omega) (by omega)

set_option maxHeartbeats 1000000 in
theorem mex_X1_rectangleCount_1 {w : pb_W} (l : Launch) {H : Heap} (hlx : l.stackTraces = false) (b : Nat) (fs : List Value) (hBo : pb_R w H b 0 fs) (s : Int) (hs : -2147483648 ≤ s ∧ s ≤ 2147483647) (bs : ¬ (0 ≤ s ∧ s ≤ 7))  : pb_X w l yX1_rectangleCount cX1_rectangleCount 3 (some .int) 7 (2) (10) [.ref (b), .int (iZ (s))] H (RJ9) := by
  refine pb_ofX (by decide +kernel) (Nat.le_of_ble_eq_true rfl) ?_
  intro p_ e_ s_ m_ ar_ bl_ me_ co_ ls C hh hG hl hT
  have hG0 := hG
  have hF : pb_F (fun _ => True) H H := pb_F.rf
  have hl : lv_has ls 3 [(0, .ref (b)), (1, .int (iZ (s)))] := hl
  refine pb_newE C in_X8 tyX8 tyX8_ok (ci := 5) rfl q1196 q492 q75 (fs := [.int (iZ (0)), .int (iZ (0))]) (by decide) (bc' := 1) (bs' := 8) (by omega) (by omega) dX1_rectangleCount_0 fun a1_ H1_ ha_ hn_ hN1_ => ?_
  have hs1_ : H1_.size = H.size + 1 := hn_.1
  have hG := hG.kept (hn_.f.mono (fun _ _ _ => trivial))
  have hBo := hBo.kept (hn_.2 _ hBo.lt)
  have hF := hF.trz hn_.f (fun _ _ => trivial)
  obtain rfl : a1_ = H.size := by omega
  skip
  have hN := hN1_
  refine pb_dup C dX1_rectangleCount_3 rfl ?_
  refine pb_go_v (bc' := 1) (bs' := 8) (pb_runIN (rest := [.ref (H.size)]) C hG (met_X8_init l H.size) q1197 q494 q75 q495 rfl hdX8_init rfl hl.1 rfl (Nat.le_of_ble_eq_true rfl) ⟨(Nat.le_of_ble_eq_true rfl), (Nat.le_of_ble_eq_true rfl)⟩ dX1_rectangleCount_4) (by omega) (by omega) (fun H_ hp_ => ?_)
  have hp8 := hp_.symm
  subst hp8
  refine pb_astore_n C dX1_rectangleCount_7 rfl hl (by decide) rfl fun ls hl => ?_
  have hl : lv_has ls 3 [(2, .ref (H.size)), (0, .ref (b)), (1, .int (iZ (s)))] := hl
  refine pb_aload_n C dX1_rectangleCount_8 rfl (lv_at hl 0 rfl) ?_
  refine pb_aload_n C dX1_rectangleCount_9 rfl (lv_at hl 1 rfl) ?_
  refine pb_iload_n C dX1_rectangleCount_10 rfl (lv_at hl 2 rfl) ?_
  exact pb_outX C hF hT (pb_runVX (rest := [.ref (H.size)]) C hG (mex_X1_region l hlx b s hs bs) hBo (ci := 0) rfl (lw_V q325 q327 qs4 q51 q328) ⟨rfl, hdX1_region⟩ rfl hl.1 rfl (Nat.le_of_ble_eq_true rfl) ⟨(Nat.le_of_ble_eq_true rfl), (Nat.le_of_ble_eq_true rfl)⟩ dX1_rectangleCount_11) (by omega) (by omega)

set_option maxHeartbeats 1000000 in
theorem mex_X1_partCount_1 {w : pb_W} (l : Launch) {H : Heap} (hlx : l.stackTraces = false) (b : Nat) (fs : List Value) (hBo : pb_R w H b 0 fs) (s : Int) (hs : -2147483648 ≤ s ∧ s ≤ 2147483647) (bs : ¬ (0 ≤ s ∧ s ≤ 7))  : pb_X w l yX1_partCount cX1_partCount 2 (some .int) 7 (2) (10) [.ref (b), .int (iZ (s))] H (RJ9) := by
  refine pb_ofX (by decide +kernel) (Nat.le_of_ble_eq_true rfl) ?_
  intro p_ e_ s_ m_ ar_ bl_ me_ co_ ls C hh hG hl hT
  have hG0 := hG
  have hF : pb_F (fun _ => True) H H := pb_F.rf
  have hl : lv_has ls 2 [(0, .ref (b)), (1, .int (iZ (s)))] := hl
  refine pb_aload_n C dX1_partCount_0 rfl (lv_at hl 0 rfl) ?_
  refine pb_iload_n C dX1_partCount_1 rfl (lv_at hl 1 rfl) ?_
  exact pb_outX C hF hT (pb_runVX (rest := []) C hG (mex_X1_region l hlx b s hs bs) hBo (ci := 0) rfl (lw_V q325 q327 qs4 q51 q328) ⟨rfl, hdX1_region⟩ rfl hl.1 rfl (Nat.le_of_ble_eq_true rfl) ⟨(Nat.le_of_ble_eq_true rfl), (Nat.le_of_ble_eq_true rfl)⟩ dX1_partCount_2) (by omega) (by omega)

set_option maxHeartbeats 1000000 in
theorem mex_X1_partCountByCells_1 {w : pb_W} (l : Launch) {H : Heap} (hlx : l.stackTraces = false) (b : Nat) (fs : List Value) (hBo : pb_R w H b 0 fs) (s : Int) (hs : -2147483648 ≤ s ∧ s ≤ 2147483647) (bs : ¬ (0 ≤ s ∧ s ≤ 7))  : pb_X w l yX1_partCountByCells cX1_partCountByCells 2 (some .int) 7 (2) (10) [.ref (b), .int (iZ (s))] H (RJ9) := by
  refine pb_ofX (by decide +kernel) (Nat.le_of_ble_eq_true rfl) ?_
  intro p_ e_ s_ m_ ar_ bl_ me_ co_ ls C hh hG hl hT
  have hG0 := hG
  have hF : pb_F (fun _ => True) H H := pb_F.rf
  have hl : lv_has ls 2 [(0, .ref (b)), (1, .int (iZ (s)))] := hl
  refine pb_aload_n C dX1_partCountByCells_0 rfl (lv_at hl 0 rfl) ?_
  refine pb_iload_n C dX1_partCountByCells_1 rfl (lv_at hl 1 rfl) ?_
  exact pb_outX C hF hT (pb_runVX (rest := []) C hG (mex_X1_region l hlx b s hs bs) hBo (ci := 0) rfl (lw_V q325 q327 qs4 q51 q328) ⟨rfl, hdX1_region⟩ rfl hl.1 rfl (Nat.le_of_ble_eq_true rfl) ⟨(Nat.le_of_ble_eq_true rfl), (Nat.le_of_ble_eq_true rfl)⟩ dX1_partCountByCells_2) (by omega) (by omega)

set_option maxHeartbeats 1000000 in
theorem mex_X1_holeCount_1 {w : pb_W} (l : Launch) {H : Heap} (hlx : l.stackTraces = false) (b : Nat) (fs : List Value) (hBo : pb_R w H b 0 fs) (s : Int) (hs : -2147483648 ≤ s ∧ s ≤ 2147483647) (bs : ¬ (0 ≤ s ∧ s ≤ 7))  : pb_X w l yX1_holeCount cX1_holeCount 5 (some .int) 7 (2) (10) [.ref (b), .int (iZ (s))] H (RJ9) := by
  refine pb_ofX (by decide +kernel) (Nat.le_of_ble_eq_true rfl) ?_
  intro p_ e_ s_ m_ ar_ bl_ me_ co_ ls C hh hG hl hT
  have hG0 := hG
  have hF : pb_F (fun _ => True) H H := pb_F.rf
  have hl : lv_has ls 5 [(0, .ref (b)), (1, .int (iZ (s)))] := hl
  refine pb_ic C dX1_holeCount_0 ?_
  refine pb_istore_n C dX1_holeCount_1 rfl hl (by decide) rfl fun ls hl => ?_
  have hl : lv_has ls 5 [(2, .int (iZ (0))), (0, .ref (b)), (1, .int (iZ (s)))] := hl
  refine pb_newE C in_X14 tyX14 tyX14_ok (ci := 12) rfl q1224 q1225 q86 (fs := [.null, .null, .null]) (by decide) (bc' := 1) (bs' := 7) (by omega) (by omega) dX1_holeCount_2 fun a1_ H1_ ha_ hn_ hN1_ => ?_
  have hs1_ : H1_.size = H.size + 1 := hn_.1
  have hG := hG.kept (hn_.f.mono (fun _ _ _ => trivial))
  have hBo := hBo.kept (hn_.2 _ hBo.lt)
  have hF := hF.trz hn_.f (fun _ _ => trivial)
  have a1__e : a1_ = H.size := ha_
  refine pb_dup C dX1_holeCount_5 rfl ?_
  refine pb_aload_n C dX1_holeCount_6 rfl (lv_at hl 1 rfl) ?_
  refine pb_iload_n C dX1_holeCount_7 rfl (lv_at hl 2 rfl) ?_
  exact pb_outX C hF hT (pb_runVX (rest := [.ref (a1_), .ref (a1_)]) C hG (mex_X1_region l hlx b s hs bs) hBo (ci := 0) rfl (lw_V q325 q327 qs4 q51 q328) ⟨rfl, hdX1_region⟩ rfl hl.1 rfl (Nat.le_of_ble_eq_true rfl) ⟨(Nat.le_of_ble_eq_true rfl), (Nat.le_of_ble_eq_true rfl)⟩ dX1_holeCount_8) (by omega) (by omega)

set_option maxHeartbeats 1000000 in
theorem mex_X1_holeCountByCells_1 {w : pb_W} (l : Launch) {H : Heap} (hlx : l.stackTraces = false) (b : Nat) (fs : List Value) (hBo : pb_R w H b 0 fs) (s : Int) (hs : -2147483648 ≤ s ∧ s ≤ 2147483647) (bs : ¬ (0 ≤ s ∧ s ≤ 7))  : pb_X w l yX1_holeCountByCells cX1_holeCountByCells 2 (some .int) 7 (2) (10) [.ref (b), .int (iZ (s))] H (RJ9) := by
  refine pb_ofX (by decide +kernel) (Nat.le_of_ble_eq_true rfl) ?_
  intro p_ e_ s_ m_ ar_ bl_ me_ co_ ls C hh hG hl hT
  have hG0 := hG
  have hF : pb_F (fun _ => True) H H := pb_F.rf
  have hl : lv_has ls 2 [(0, .ref (b)), (1, .int (iZ (s)))] := hl
  refine pb_aload_n C dX1_holeCountByCells_0 rfl (lv_at hl 0 rfl) ?_
  refine pb_iload_n C dX1_holeCountByCells_1 rfl (lv_at hl 1 rfl) ?_
  exact pb_outX C hF hT (pb_runVX (rest := []) C hG (mex_X1_region l hlx b s hs bs) hBo (ci := 0) rfl (lw_V q325 q327 qs4 q51 q328) ⟨rfl, hdX1_region⟩ rfl hl.1 rfl (Nat.le_of_ble_eq_true rfl) ⟨(Nat.le_of_ble_eq_true rfl), (Nat.le_of_ble_eq_true rfl)⟩ dX1_holeCountByCells_2) (by omega) (by omega)

set_option maxHeartbeats 1000000 in
theorem mex_X1_largestRectangle_1 {w : pb_W} (l : Launch) {H : Heap} (hlx : l.stackTraces = false) (b : Nat) (fs : List Value) (hBo : pb_R w H b 0 fs) (s : Int) (hs : -2147483648 ≤ s ∧ s ≤ 2147483647) (bs : ¬ (0 ≤ s ∧ s ≤ 7))  : pb_X w l yX1_largestRectangle cX1_largestRectangle 2 (some .int) 7 (2) (10) [.ref (b), .int (iZ (s))] H (RJ9) := by
  refine pb_ofX (by decide +kernel) (Nat.le_of_ble_eq_true rfl) ?_
  intro p_ e_ s_ m_ ar_ bl_ me_ co_ ls C hh hG hl hT
  have hG0 := hG
  have hF : pb_F (fun _ => True) H H := pb_F.rf
  have hl : lv_has ls 2 [(0, .ref (b)), (1, .int (iZ (s)))] := hl
  refine pb_newE C in_X16 tyX16 tyX16_ok (ci := 14) rfl q1400 q1401 q89 (fs := [.int (iZ (0)), .int (iZ (0))]) (by decide) (bc' := 1) (bs' := 8) (by omega) (by omega) dX1_largestRectangle_0 fun a1_ H1_ ha_ hn_ hN1_ => ?_
  have hs1_ : H1_.size = H.size + 1 := hn_.1
  have hG := hG.kept (hn_.f.mono (fun _ _ _ => trivial))
  have hBo := hBo.kept (hn_.2 _ hBo.lt)
  have hF := hF.trz hn_.f (fun _ _ => trivial)
  have a1__e : a1_ = H.size := ha_
  refine pb_dup C dX1_largestRectangle_3 rfl ?_
  refine pb_aload_n C dX1_largestRectangle_4 rfl (lv_at hl 0 rfl) ?_
  refine pb_iload_n C dX1_largestRectangle_5 rfl (lv_at hl 1 rfl) ?_
  exact pb_outX C hF hT (pb_runVX (rest := [.ref (a1_), .ref (a1_)]) C hG (mex_X1_region l hlx b s hs bs) hBo (ci := 0) rfl (lw_V q325 q327 qs4 q51 q328) ⟨rfl, hdX1_region⟩ rfl hl.1 rfl (Nat.le_of_ble_eq_true rfl) ⟨(Nat.le_of_ble_eq_true rfl), (Nat.le_of_ble_eq_true rfl)⟩ dX1_largestRectangle_6) (by omega) (by omega)

set_option maxHeartbeats 1000000 in
theorem mex_X1_largestRectangleByCells_1 {w : pb_W} (l : Launch) {H : Heap} (hlx : l.stackTraces = false) (b : Nat) (fs : List Value) (hBo : pb_R w H b 0 fs) (s : Int) (hs : -2147483648 ≤ s ∧ s ≤ 2147483647) (bs : ¬ (0 ≤ s ∧ s ≤ 7))  : pb_X w l yX1_largestRectangleByCells cX1_largestRectangleByCells 2 (some .int) 7 (2) (10) [.ref (b), .int (iZ (s))] H (RJ9) := by
  refine pb_ofX (by decide +kernel) (Nat.le_of_ble_eq_true rfl) ?_
  intro p_ e_ s_ m_ ar_ bl_ me_ co_ ls C hh hG hl hT
  have hG0 := hG
  have hF : pb_F (fun _ => True) H H := pb_F.rf
  have hl : lv_has ls 2 [(0, .ref (b)), (1, .int (iZ (s)))] := hl
  refine pb_aload_n C dX1_largestRectangleByCells_0 rfl (lv_at hl 0 rfl) ?_
  refine pb_iload_n C dX1_largestRectangleByCells_1 rfl (lv_at hl 1 rfl) ?_
  exact pb_outX C hF hT (pb_runVX (rest := []) C hG (mex_X1_region l hlx b s hs bs) hBo (ci := 0) rfl (lw_V q325 q327 qs4 q51 q328) ⟨rfl, hdX1_region⟩ rfl hl.1 rfl (Nat.le_of_ble_eq_true rfl) ⟨(Nat.le_of_ble_eq_true rfl), (Nat.le_of_ble_eq_true rfl)⟩ dX1_largestRectangleByCells_2) (by omega) (by omega)

set_option maxHeartbeats 1000000 in
theorem mex_X1_largestSquare_1 {w : pb_W} (l : Launch) {H : Heap} (hlx : l.stackTraces = false) (b : Nat) (fs : List Value) (hBo : pb_R w H b 0 fs) (s : Int) (hs : -2147483648 ≤ s ∧ s ≤ 2147483647) (bs : ¬ (0 ≤ s ∧ s ≤ 7))  : pb_X w l yX1_largestSquare cX1_largestSquare 2 (some .int) 7 (2) (10) [.ref (b), .int (iZ (s))] H (RJ9) := by
  refine pb_ofX (by decide +kernel) (Nat.le_of_ble_eq_true rfl) ?_
  intro p_ e_ s_ m_ ar_ bl_ me_ co_ ls C hh hG hl hT
  have hG0 := hG
  have hF : pb_F (fun _ => True) H H := pb_F.rf
  have hl : lv_has ls 2 [(0, .ref (b)), (1, .int (iZ (s)))] := hl
  refine pb_newE C in_X16 tyX16 tyX16_ok (ci := 14) rfl q1400 q1401 q89 (fs := [.int (iZ (0)), .int (iZ (0))]) (by decide) (bc' := 1) (bs' := 8) (by omega) (by omega) dX1_largestSquare_0 fun a1_ H1_ ha_ hn_ hN1_ => ?_
  have hs1_ : H1_.size = H.size + 1 := hn_.1
  have hG := hG.kept (hn_.f.mono (fun _ _ _ => trivial))
  have hBo := hBo.kept (hn_.2 _ hBo.lt)
  have hF := hF.trz hn_.f (fun _ _ => trivial)
  have a1__e : a1_ = H.size := ha_
  refine pb_dup C dX1_largestSquare_3 rfl ?_
  refine pb_aload_n C dX1_largestSquare_4 rfl (lv_at hl 0 rfl) ?_
  refine pb_iload_n C dX1_largestSquare_5 rfl (lv_at hl 1 rfl) ?_
  exact pb_outX C hF hT (pb_runVX (rest := [.ref (a1_), .ref (a1_)]) C hG (mex_X1_region l hlx b s hs bs) hBo (ci := 0) rfl (lw_V q325 q327 qs4 q51 q328) ⟨rfl, hdX1_region⟩ rfl hl.1 rfl (Nat.le_of_ble_eq_true rfl) ⟨(Nat.le_of_ble_eq_true rfl), (Nat.le_of_ble_eq_true rfl)⟩ dX1_largestSquare_6) (by omega) (by omega)

set_option maxHeartbeats 1000000 in
theorem mex_X1_largestSquareByCells_1 {w : pb_W} (l : Launch) {H : Heap} (hlx : l.stackTraces = false) (b : Nat) (fs : List Value) (hBo : pb_R w H b 0 fs) (s : Int) (hs : -2147483648 ≤ s ∧ s ≤ 2147483647) (bs : ¬ (0 ≤ s ∧ s ≤ 7))  : pb_X w l yX1_largestSquareByCells cX1_largestSquareByCells 2 (some .int) 7 (2) (10) [.ref (b), .int (iZ (s))] H (RJ9) := by
  refine pb_ofX (by decide +kernel) (Nat.le_of_ble_eq_true rfl) ?_
  intro p_ e_ s_ m_ ar_ bl_ me_ co_ ls C hh hG hl hT
  have hG0 := hG
  have hF : pb_F (fun _ => True) H H := pb_F.rf
  have hl : lv_has ls 2 [(0, .ref (b)), (1, .int (iZ (s)))] := hl
  refine pb_aload_n C dX1_largestSquareByCells_0 rfl (lv_at hl 0 rfl) ?_
  refine pb_iload_n C dX1_largestSquareByCells_1 rfl (lv_at hl 1 rfl) ?_
  exact pb_outX C hF hT (pb_runVX (rest := []) C hG (mex_X1_region l hlx b s hs bs) hBo (ci := 0) rfl (lw_V q325 q327 qs4 q51 q328) ⟨rfl, hdX1_region⟩ rfl hl.1 rfl (Nat.le_of_ble_eq_true rfl) ⟨(Nat.le_of_ble_eq_true rfl), (Nat.le_of_ble_eq_true rfl)⟩ dX1_largestSquareByCells_2) (by omega) (by omega)

set_option maxHeartbeats 1000000 in
theorem mex_X1_outlineCount_1 {w : pb_W} (l : Launch) {H : Heap} (hlx : l.stackTraces = false) (b : Nat) (fs : List Value) (hBo : pb_R w H b 0 fs) (s : Int) (hs : -2147483648 ≤ s ∧ s ≤ 2147483647) (bs : ¬ (0 ≤ s ∧ s ≤ 7))  : pb_X w l yX1_outlineCount cX1_outlineCount 2 (some .int) 7 (2) (10) [.ref (b), .int (iZ (s))] H (RJ9) := by
  refine pb_ofX (by decide +kernel) (Nat.le_of_ble_eq_true rfl) ?_
  intro p_ e_ s_ m_ ar_ bl_ me_ co_ ls C hh hG hl hT
  have hG0 := hG
  have hF : pb_F (fun _ => True) H H := pb_F.rf
  have hl : lv_has ls 2 [(0, .ref (b)), (1, .int (iZ (s)))] := hl
  refine pb_newE C in_X14 tyX14 tyX14_ok (ci := 12) rfl q1224 q1225 q86 (fs := [.null, .null, .null]) (by decide) (bc' := 1) (bs' := 7) (by omega) (by omega) dX1_outlineCount_0 fun a1_ H1_ ha_ hn_ hN1_ => ?_
  have hs1_ : H1_.size = H.size + 1 := hn_.1
  have hG := hG.kept (hn_.f.mono (fun _ _ _ => trivial))
  have hBo := hBo.kept (hn_.2 _ hBo.lt)
  have hF := hF.trz hn_.f (fun _ _ => trivial)
  have a1__e : a1_ = H.size := ha_
  refine pb_dup C dX1_outlineCount_3 rfl ?_
  refine pb_aload_n C dX1_outlineCount_4 rfl (lv_at hl 0 rfl) ?_
  refine pb_iload_n C dX1_outlineCount_5 rfl (lv_at hl 1 rfl) ?_
  exact pb_outX C hF hT (pb_runVX (rest := [.ref (a1_), .ref (a1_)]) C hG (mex_X1_region l hlx b s hs bs) hBo (ci := 0) rfl (lw_V q325 q327 qs4 q51 q328) ⟨rfl, hdX1_region⟩ rfl hl.1 rfl (Nat.le_of_ble_eq_true rfl) ⟨(Nat.le_of_ble_eq_true rfl), (Nat.le_of_ble_eq_true rfl)⟩ dX1_outlineCount_6) (by omega) (by omega)

set_option maxHeartbeats 1000000 in
theorem mex_X1_moment_1 {w : pb_W} (l : Launch) {H : Heap} (hlx : l.stackTraces = false) (b : Nat) (fs : List Value) (hBo : pb_R w H b 0 fs) (s : Int) (hs : -2147483648 ≤ s ∧ s ≤ 2147483647) (bs : ¬ (0 ≤ s ∧ s ≤ 7))  : pb_X w l yX1_moment cX1_moment 3 (some .long) 7 (2) (10) [.ref (b), .int (iZ (s))] H (RJ9) := by
  refine pb_ofX (by decide +kernel) (Nat.le_of_ble_eq_true rfl) ?_
  intro p_ e_ s_ m_ ar_ bl_ me_ co_ ls C hh hG hl hT
  have hG0 := hG
  have hF : pb_F (fun _ => True) H H := pb_F.rf
  have hl : lv_has ls 3 [(0, .ref (b)), (1, .int (iZ (s)))] := hl
  refine pb_newE C in_X9 tyX9 tyX9_ok (ci := 6) rfl q1635 q1636 q78 (fs := [.int (iZ (0)), .long (lZ (0))]) (by decide) (bc' := 1) (bs' := 8) (by omega) (by omega) dX1_moment_0 fun a1_ H1_ ha_ hn_ hN1_ => ?_
  have hs1_ : H1_.size = H.size + 1 := hn_.1
  have hG := hG.kept (hn_.f.mono (fun _ _ _ => trivial))
  have hBo := hBo.kept (hn_.2 _ hBo.lt)
  have hF := hF.trz hn_.f (fun _ _ => trivial)
  obtain rfl : a1_ = H.size := by omega
  skip
  have hN := hN1_
  refine pb_dup C dX1_moment_3 rfl ?_
  refine pb_go_v (bc' := 1) (bs' := 8) (pb_runIN (rest := [.ref (H.size)]) C hG (met_X9_init l H.size) q1637 q1638 q78 q1639 rfl hdX9_init rfl hl.1 rfl (Nat.le_of_ble_eq_true rfl) ⟨(Nat.le_of_ble_eq_true rfl), (Nat.le_of_ble_eq_true rfl)⟩ dX1_moment_4) (by omega) (by omega) (fun H_ hp_ => ?_)
  have hp8 := hp_.symm
  subst hp8
  refine pb_astore_n C dX1_moment_7 rfl hl (by decide) rfl fun ls hl => ?_
  have hl : lv_has ls 3 [(2, .ref (H.size)), (0, .ref (b)), (1, .int (iZ (s)))] := hl
  refine pb_aload_n C dX1_moment_8 rfl (lv_at hl 0 rfl) ?_
  refine pb_aload_n C dX1_moment_9 rfl (lv_at hl 1 rfl) ?_
  refine pb_iload_n C dX1_moment_10 rfl (lv_at hl 2 rfl) ?_
  exact pb_outX C hF hT (pb_runVX (rest := [.ref (H.size)]) C hG (mex_X1_region l hlx b s hs bs) hBo (ci := 0) rfl (lw_V q325 q327 qs4 q51 q328) ⟨rfl, hdX1_region⟩ rfl hl.1 rfl (Nat.le_of_ble_eq_true rfl) ⟨(Nat.le_of_ble_eq_true rfl), (Nat.le_of_ble_eq_true rfl)⟩ dX1_moment_11) (by omega) (by omega)

set_option maxHeartbeats 1000000 in
theorem mex_X1_momentByCells_1 {w : pb_W} (l : Launch) {H : Heap} (hlx : l.stackTraces = false) (b : Nat) (fs : List Value) (hBo : pb_R w H b 0 fs) (s : Int) (hs : -2147483648 ≤ s ∧ s ≤ 2147483647) (bs : ¬ (0 ≤ s ∧ s ≤ 7))  : pb_X w l yX1_momentByCells cX1_momentByCells 2 (some .long) 7 (2) (10) [.ref (b), .int (iZ (s))] H (RJ9) := by
  refine pb_ofX (by decide +kernel) (Nat.le_of_ble_eq_true rfl) ?_
  intro p_ e_ s_ m_ ar_ bl_ me_ co_ ls C hh hG hl hT
  have hG0 := hG
  have hF : pb_F (fun _ => True) H H := pb_F.rf
  have hl : lv_has ls 2 [(0, .ref (b)), (1, .int (iZ (s)))] := hl
  refine pb_aload_n C dX1_momentByCells_0 rfl (lv_at hl 0 rfl) ?_
  refine pb_iload_n C dX1_momentByCells_1 rfl (lv_at hl 1 rfl) ?_
  exact pb_outX C hF hT (pb_runVX (rest := []) C hG (mex_X1_region l hlx b s hs bs) hBo (ci := 0) rfl (lw_V q325 q327 qs4 q51 q328) ⟨rfl, hdX1_region⟩ rfl hl.1 rfl (Nat.le_of_ble_eq_true rfl) ⟨(Nat.le_of_ble_eq_true rfl), (Nat.le_of_ble_eq_true rfl)⟩ dX1_momentByCells_2) (by omega) (by omega)

set_option maxHeartbeats 1000000 in
theorem mex_X1_middleOf_1 {w : pb_W} (l : Launch) {H : Heap} (hlx : l.stackTraces = false) (b : Nat) (fs : List Value) (hBo : pb_R w H b 0 fs) (s : Int) (hs : -2147483648 ≤ s ∧ s ≤ 2147483647) (bs : ¬ (0 ≤ s ∧ s ≤ 7))  : pb_X w l yX1_middleOf cX1_middleOf 3 (some (.object "PolygonBoard$MiddleScan")) 7 (2) (10) [.ref (b), .int (iZ (s))] H (RJ9) := by
  refine pb_ofX (by decide +kernel) (Nat.le_of_ble_eq_true rfl) ?_
  intro p_ e_ s_ m_ ar_ bl_ me_ co_ ls C hh hG hl hT
  have hG0 := hG
  have hF : pb_F (fun _ => True) H H := pb_F.rf
  have hl : lv_has ls 3 [(0, .ref (b)), (1, .int (iZ (s)))] := hl
  refine pb_newE C in_X17 tyX17 tyX17_ok (ci := 7) rfl q1685 q1686 q92 (fs := [.int (iZ (0)), .int (iZ (0)), .int (iZ (0)), .int (iZ (0))]) (by decide) (bc' := 1) (bs' := 6) (by omega) (by omega) dX1_middleOf_0 fun a1_ H1_ ha_ hn_ hN1_ => ?_
  have hs1_ : H1_.size = H.size + 1 := hn_.1
  have hG := hG.kept (hn_.f.mono (fun _ _ _ => trivial))
  have hBo := hBo.kept (hn_.2 _ hBo.lt)
  have hF := hF.trz hn_.f (fun _ _ => trivial)
  obtain rfl : a1_ = H.size := by omega
  skip
  have hN := hN1_
  refine pb_dup C dX1_middleOf_3 rfl ?_
  refine pb_go_v (bc' := 1) (bs' := 6) (pb_runIN (rest := [.ref (H.size)]) C hG (met_X17_init l H.size) q1687 q1688 q92 q1689 rfl hdX17_init rfl hl.1 rfl (Nat.le_of_ble_eq_true rfl) ⟨(Nat.le_of_ble_eq_true rfl), (Nat.le_of_ble_eq_true rfl)⟩ dX1_middleOf_4) (by omega) (by omega) (fun H_ hp_ => ?_)
  have hp8 := hp_.symm
  subst hp8
  refine pb_astore_n C dX1_middleOf_7 rfl hl (by decide) rfl fun ls hl => ?_
  have hl : lv_has ls 3 [(2, .ref (H.size)), (0, .ref (b)), (1, .int (iZ (s)))] := hl
  refine pb_aload_n C dX1_middleOf_8 rfl (lv_at hl 0 rfl) ?_
  refine pb_aload_n C dX1_middleOf_9 rfl (lv_at hl 1 rfl) ?_
  refine pb_iload_n C dX1_middleOf_10 rfl (lv_at hl 2 rfl) ?_
  exact pb_outX C hF hT (pb_runVX (rest := [.ref (H.size)]) C hG (mex_X1_region l hlx b s hs bs) hBo (ci := 0) rfl (lw_V q325 q327 qs4 q51 q328) ⟨rfl, hdX1_region⟩ rfl hl.1 rfl (Nat.le_of_ble_eq_true rfl) ⟨(Nat.le_of_ble_eq_true rfl), (Nat.le_of_ble_eq_true rfl)⟩ dX1_middleOf_11) (by omega) (by omega)

set_option maxHeartbeats 1000000 in
theorem mex_X1_contains_1 {w : pb_W} (l : Launch) {H : Heap} (hlx : l.stackTraces = false) (b : Nat) (fs : List Value) (hBo : pb_R w H b 0 fs) (s : Int) (hs : -2147483648 ≤ s ∧ s ≤ 2147483647) (bs : ¬ (0 ≤ s ∧ s ≤ 7)) (x : Int) (y : Int) : pb_X w l yX1_contains cX1_contains 5 (some .boolean) 7 (2) (10) [.ref (b), .int (iZ (s)), .int (iZ (x)), .int (iZ (y))] H (RJ9) := by
  refine pb_ofX (by decide +kernel) (Nat.le_of_ble_eq_true rfl) ?_
  intro p_ e_ s_ m_ ar_ bl_ me_ co_ ls C hh hG hl hT
  have hG0 := hG
  have hF : pb_F (fun _ => True) H H := pb_F.rf
  have hl : lv_has ls 5 [(0, .ref (b)), (1, .int (iZ (s))), (2, .int (iZ (x))), (3, .int (iZ (y)))] := hl
  refine pb_aload_n C dX1_contains_0 rfl (lv_at hl 0 rfl) ?_
  refine pb_iload_n C dX1_contains_1 rfl (lv_at hl 1 rfl) ?_
  exact pb_outX C hF hT (pb_runVX (rest := []) C hG (mex_X1_region l hlx b s hs bs) hBo (ci := 0) rfl (lw_V q325 q327 qs4 q51 q328) ⟨rfl, hdX1_region⟩ rfl hl.1 rfl (Nat.le_of_ble_eq_true rfl) ⟨(Nat.le_of_ble_eq_true rfl), (Nat.le_of_ble_eq_true rfl)⟩ dX1_contains_2) (by omega) (by omega)

set_option maxHeartbeats 1000000 in
theorem mex_X1_closePath_1 {w : pb_W} (l : Launch) {H : Heap} (hlx : l.stackTraces = false) (b : Nat) (fs : List Value) (hBo : pb_R w H b 0 fs) (s : Int) (hs : -2147483648 ≤ s ∧ s ≤ 2147483647) (bs : ¬ (0 ≤ s ∧ s ≤ 7)) (od : Bool) : pb_X w l yX1_closePath cX1_closePath 4 (some .int) 7 (2) (10) [.ref (b), .int (iZ (s)), .int (iZ ((bI (od))))] H (RJ9) := by
  refine pb_ofX (by decide +kernel) (Nat.le_of_ble_eq_true rfl) ?_
  intro p_ e_ s_ m_ ar_ bl_ me_ co_ ls C hh hG hl hT
  have hG0 := hG
  have hF : pb_F (fun _ => True) H H := pb_F.rf
  have hl : lv_has ls 4 [(0, .ref (b)), (1, .int (iZ (s))), (2, .int (iZ ((bI (od)))))] := hl
  refine pb_aload_n C dX1_closePath_0 rfl (lv_at hl 0 rfl) ?_
  refine pb_iload_n C dX1_closePath_1 rfl (lv_at hl 1 rfl) ?_
  exact pb_outX C hF hT (pb_runVX (rest := []) C hG (mex_X1_region l hlx b s hs bs) hBo (ci := 0) rfl (lw_V q325 q327 qs4 q51 q328) ⟨rfl, hdX1_region⟩ rfl hl.1 rfl (Nat.le_of_ble_eq_true rfl) ⟨(Nat.le_of_ble_eq_true rfl), (Nat.le_of_ble_eq_true rfl)⟩ dX1_closePath_2) (by omega) (by omega)

set_option maxHeartbeats 1000000 in
theorem mex_X1_fill_1 {w : pb_W} (l : Launch) {H : Heap} (hlx : l.stackTraces = false) (b : Nat) (fs : List Value) (hBo : pb_R w H b 0 fs) (s : Int) (hs : -2147483648 ≤ s ∧ s ≤ 2147483647) (bs : ¬ (0 ≤ s ∧ s ≤ 7)) (x1 : Int) (x2 : Int) (x3 : Int) (x4 : Int) : pb_X w l yX1_fill cX1_fill 6 (some .int) 7 (2) (10) [.ref (b), .int (iZ (s)), .int (iZ (x1)), .int (iZ (x2)), .int (iZ (x3)), .int (iZ (x4))] H (RJ9) := by
  refine pb_ofX (by decide +kernel) (Nat.le_of_ble_eq_true rfl) ?_
  intro p_ e_ s_ m_ ar_ bl_ me_ co_ ls C hh hG hl hT
  have hG0 := hG
  have hF : pb_F (fun _ => True) H H := pb_F.rf
  have hl : lv_has ls 6 [(0, .ref (b)), (1, .int (iZ (s))), (2, .int (iZ (x1))), (3, .int (iZ (x2))), (4, .int (iZ (x3))), (5, .int (iZ (x4)))] := hl
  refine pb_aload_n C dX1_fill_0 rfl (lv_at hl 0 rfl) ?_
  refine pb_iload_n C dX1_fill_1 rfl (lv_at hl 1 rfl) ?_
  exact pb_outX C hF hT (pb_runVX (rest := []) C hG (mex_X1_region l hlx b s hs bs) hBo (ci := 0) rfl (lw_V q325 q327 qs4 q51 q328) ⟨rfl, hdX1_region⟩ rfl hl.1 rfl (Nat.le_of_ble_eq_true rfl) ⟨(Nat.le_of_ble_eq_true rfl), (Nat.le_of_ble_eq_true rfl)⟩ dX1_fill_2) (by omega) (by omega)

set_option maxHeartbeats 1000000 in
theorem mex_X1_erase_1 {w : pb_W} (l : Launch) {H : Heap} (hlx : l.stackTraces = false) (b : Nat) (fs : List Value) (hBo : pb_R w H b 0 fs) (s : Int) (hs : -2147483648 ≤ s ∧ s ≤ 2147483647) (bs : ¬ (0 ≤ s ∧ s ≤ 7)) (x1 : Int) (x2 : Int) (x3 : Int) (x4 : Int) : pb_X w l yX1_erase cX1_erase 6 (some .int) 7 (2) (10) [.ref (b), .int (iZ (s)), .int (iZ (x1)), .int (iZ (x2)), .int (iZ (x3)), .int (iZ (x4))] H (RJ9) := by
  refine pb_ofX (by decide +kernel) (Nat.le_of_ble_eq_true rfl) ?_
  intro p_ e_ s_ m_ ar_ bl_ me_ co_ ls C hh hG hl hT
  have hG0 := hG
  have hF : pb_F (fun _ => True) H H := pb_F.rf
  have hl : lv_has ls 6 [(0, .ref (b)), (1, .int (iZ (s))), (2, .int (iZ (x1))), (3, .int (iZ (x2))), (4, .int (iZ (x3))), (5, .int (iZ (x4)))] := hl
  refine pb_aload_n C dX1_erase_0 rfl (lv_at hl 0 rfl) ?_
  refine pb_iload_n C dX1_erase_1 rfl (lv_at hl 1 rfl) ?_
  exact pb_outX C hF hT (pb_runVX (rest := []) C hG (mex_X1_region l hlx b s hs bs) hBo (ci := 0) rfl (lw_V q325 q327 qs4 q51 q328) ⟨rfl, hdX1_region⟩ rfl hl.1 rfl (Nat.le_of_ble_eq_true rfl) ⟨(Nat.le_of_ble_eq_true rfl), (Nat.le_of_ble_eq_true rfl)⟩ dX1_erase_2) (by omega) (by omega)

set_option maxHeartbeats 1000000 in
theorem mex_X1_outline_1 {w : pb_W} (l : Launch) {H : Heap} (hlx : l.stackTraces = false) (b : Nat) (fs : List Value) (hBo : pb_R w H b 0 fs) (s : Int) (hs : -2147483648 ≤ s ∧ s ≤ 2147483647) (bs : ¬ (0 ≤ s ∧ s ≤ 7)) (x1 : Int) : pb_X w l yX1_outline cX1_outline 4 (some (.object "PolygonBoard$Outline")) 7 (2) (10) [.ref (b), .int (iZ (s)), .int (iZ (x1))] H (RJ9) := by
  refine pb_ofX (by decide +kernel) (Nat.le_of_ble_eq_true rfl) ?_
  intro p_ e_ s_ m_ ar_ bl_ me_ co_ ls C hh hG hl hT
  have hG0 := hG
  have hF : pb_F (fun _ => True) H H := pb_F.rf
  have hl : lv_has ls 4 [(0, .ref (b)), (1, .int (iZ (s))), (2, .int (iZ (x1)))] := hl
  refine pb_newE C in_X14 tyX14 tyX14_ok (ci := 12) rfl q1224 q1225 q86 (fs := [.null, .null, .null]) (by decide) (bc' := 1) (bs' := 7) (by omega) (by omega) dX1_outline_0 fun a1_ H1_ ha_ hn_ hN1_ => ?_
  have hs1_ : H1_.size = H.size + 1 := hn_.1
  have hG := hG.kept (hn_.f.mono (fun _ _ _ => trivial))
  have hBo := hBo.kept (hn_.2 _ hBo.lt)
  have hF := hF.trz hn_.f (fun _ _ => trivial)
  have a1__e : a1_ = H.size := ha_
  refine pb_dup C dX1_outline_3 rfl ?_
  refine pb_aload_n C dX1_outline_4 rfl (lv_at hl 0 rfl) ?_
  refine pb_iload_n C dX1_outline_5 rfl (lv_at hl 1 rfl) ?_
  exact pb_outX C hF hT (pb_runVX (rest := [.ref (a1_), .ref (a1_)]) C hG (mex_X1_region l hlx b s hs bs) hBo (ci := 0) rfl (lw_V q325 q327 qs4 q51 q328) ⟨rfl, hdX1_region⟩ rfl hl.1 rfl (Nat.le_of_ble_eq_true rfl) ⟨(Nat.le_of_ble_eq_true rfl), (Nat.le_of_ble_eq_true rfl)⟩ dX1_outline_6) (by omega) (by omega)

set_option maxHeartbeats 1000000 in
theorem mex_X1_checkedCells_1 {w : pb_W} (l : Launch) {H : Heap} (hlx : l.stackTraces = false) (b : Nat) (fs : List Value) (hBo : pb_R w H b 0 fs) (s : Int) (hs : -2147483648 ≤ s ∧ s ≤ 2147483647) (bs : ¬ (0 ≤ s ∧ s ≤ 7)) (x1 : Int) (x2 : Int) (x3 : Int) (x4 : Int) : pb_X w l yX1_checkedCells cX1_checkedCells 7 (some (.object "PolygonBoard$Cells")) 7 (2) (10) [.ref (b), .int (iZ (s)), .int (iZ (x1)), .int (iZ (x2)), .int (iZ (x3)), .int (iZ (x4))] H (RJ9) := by
  refine pb_ofX (by decide +kernel) (Nat.le_of_ble_eq_true rfl) ?_
  intro p_ e_ s_ m_ ar_ bl_ me_ co_ ls C hh hG hl hT
  have hG0 := hG
  have hF : pb_F (fun _ => True) H H := pb_F.rf
  have hl : lv_has ls 7 [(0, .ref (b)), (1, .int (iZ (s))), (2, .int (iZ (x1))), (3, .int (iZ (x2))), (4, .int (iZ (x3))), (5, .int (iZ (x4)))] := hl
  refine pb_aload_n C dX1_checkedCells_0 rfl (lv_at hl 0 rfl) ?_
  refine pb_iload_n C dX1_checkedCells_1 rfl (lv_at hl 1 rfl) ?_
  exact pb_outX C hF hT (pb_runVX (rest := []) C hG (mex_X1_region l hlx b s hs bs) hBo (ci := 0) rfl (lw_V q325 q327 qs4 q51 q328) ⟨rfl, hdX1_region⟩ rfl hl.1 rfl (Nat.le_of_ble_eq_true rfl) ⟨(Nat.le_of_ble_eq_true rfl), (Nat.le_of_ble_eq_true rfl)⟩ dX1_checkedCells_2) (by omega) (by omega)

set_option maxHeartbeats 1000000 in
theorem mex_X1_left_1 {w : pb_W} (l : Launch) {H : Heap} (hlx : l.stackTraces = false) (b : Nat) (fs : List Value) (hBo : pb_R w H b 0 fs) (s : Int) (hs : -2147483648 ≤ s ∧ s ≤ 2147483647) (bs : ¬ (0 ≤ s ∧ s ≤ 7)) : pb_X w l yX1_left cX1_left 2 (some .int) 8 (1) (6) [.ref (b), .int (iZ (s))] H (RJ9) := by
  refine pb_ofX (by decide +kernel) (Nat.le_of_ble_eq_true rfl) ?_
  intro p_ e_ s_ m_ ar_ bl_ me_ co_ ls C hh hG hl hT
  have hG0 := hG
  have hF : pb_F (fun _ => True) H H := pb_F.rf
  have hl : lv_has ls 2 [(0, .ref (b)), (1, .int (iZ (s)))] := hl
  refine pb_aload_n C dX1_left_0 rfl (lv_at hl 0 rfl) ?_
  refine pb_iload_n C dX1_left_1 rfl (lv_at hl 1 rfl) ?_
  exact pb_outX C hF hT (pb_runVX (rest := []) C hG (mex_X1_checkedRegion_1 l hlx b fs hBo s hs bs) hBo (ci := 0) rfl (lw_V q1353 q1355 qs18 q51 q1356) ⟨rfl, hdX1_checkedRegion⟩ rfl hl.1 rfl (Nat.le_of_ble_eq_true rfl) ⟨(Nat.le_of_ble_eq_true rfl), (Nat.le_of_ble_eq_true rfl)⟩ dX1_left_2) (by omega) (by omega)

set_option maxHeartbeats 1000000 in
theorem mex_X1_right_1 {w : pb_W} (l : Launch) {H : Heap} (hlx : l.stackTraces = false) (b : Nat) (fs : List Value) (hBo : pb_R w H b 0 fs) (s : Int) (hs : -2147483648 ≤ s ∧ s ≤ 2147483647) (bs : ¬ (0 ≤ s ∧ s ≤ 7)) : pb_X w l yX1_right cX1_right 2 (some .int) 8 (1) (6) [.ref (b), .int (iZ (s))] H (RJ9) := by
  refine pb_ofX (by decide +kernel) (Nat.le_of_ble_eq_true rfl) ?_
  intro p_ e_ s_ m_ ar_ bl_ me_ co_ ls C hh hG hl hT
  have hG0 := hG
  have hF : pb_F (fun _ => True) H H := pb_F.rf
  have hl : lv_has ls 2 [(0, .ref (b)), (1, .int (iZ (s)))] := hl
  refine pb_aload_n C dX1_right_0 rfl (lv_at hl 0 rfl) ?_
  refine pb_iload_n C dX1_right_1 rfl (lv_at hl 1 rfl) ?_
  exact pb_outX C hF hT (pb_runVX (rest := []) C hG (mex_X1_checkedRegion_1 l hlx b fs hBo s hs bs) hBo (ci := 0) rfl (lw_V q1353 q1355 qs18 q51 q1356) ⟨rfl, hdX1_checkedRegion⟩ rfl hl.1 rfl (Nat.le_of_ble_eq_true rfl) ⟨(Nat.le_of_ble_eq_true rfl), (Nat.le_of_ble_eq_true rfl)⟩ dX1_right_2) (by omega) (by omega)

set_option maxHeartbeats 1000000 in
theorem mex_X1_bottom_1 {w : pb_W} (l : Launch) {H : Heap} (hlx : l.stackTraces = false) (b : Nat) (fs : List Value) (hBo : pb_R w H b 0 fs) (s : Int) (hs : -2147483648 ≤ s ∧ s ≤ 2147483647) (bs : ¬ (0 ≤ s ∧ s ≤ 7)) : pb_X w l yX1_bottom cX1_bottom 2 (some .int) 8 (1) (6) [.ref (b), .int (iZ (s))] H (RJ9) := by
  refine pb_ofX (by decide +kernel) (Nat.le_of_ble_eq_true rfl) ?_
  intro p_ e_ s_ m_ ar_ bl_ me_ co_ ls C hh hG hl hT
  have hG0 := hG
  have hF : pb_F (fun _ => True) H H := pb_F.rf
  have hl : lv_has ls 2 [(0, .ref (b)), (1, .int (iZ (s)))] := hl
  refine pb_aload_n C dX1_bottom_0 rfl (lv_at hl 0 rfl) ?_
  refine pb_iload_n C dX1_bottom_1 rfl (lv_at hl 1 rfl) ?_
  exact pb_outX C hF hT (pb_runVX (rest := []) C hG (mex_X1_checkedRegion_1 l hlx b fs hBo s hs bs) hBo (ci := 0) rfl (lw_V q1353 q1355 qs18 q51 q1356) ⟨rfl, hdX1_checkedRegion⟩ rfl hl.1 rfl (Nat.le_of_ble_eq_true rfl) ⟨(Nat.le_of_ble_eq_true rfl), (Nat.le_of_ble_eq_true rfl)⟩ dX1_bottom_2) (by omega) (by omega)

set_option maxHeartbeats 1000000 in
theorem mex_X1_top_1 {w : pb_W} (l : Launch) {H : Heap} (hlx : l.stackTraces = false) (b : Nat) (fs : List Value) (hBo : pb_R w H b 0 fs) (s : Int) (hs : -2147483648 ≤ s ∧ s ≤ 2147483647) (bs : ¬ (0 ≤ s ∧ s ≤ 7)) : pb_X w l yX1_top cX1_top 2 (some .int) 8 (1) (6) [.ref (b), .int (iZ (s))] H (RJ9) := by
  refine pb_ofX (by decide +kernel) (Nat.le_of_ble_eq_true rfl) ?_
  intro p_ e_ s_ m_ ar_ bl_ me_ co_ ls C hh hG hl hT
  have hG0 := hG
  have hF : pb_F (fun _ => True) H H := pb_F.rf
  have hl : lv_has ls 2 [(0, .ref (b)), (1, .int (iZ (s)))] := hl
  refine pb_aload_n C dX1_top_0 rfl (lv_at hl 0 rfl) ?_
  refine pb_iload_n C dX1_top_1 rfl (lv_at hl 1 rfl) ?_
  exact pb_outX C hF hT (pb_runVX (rest := []) C hG (mex_X1_checkedRegion_1 l hlx b fs hBo s hs bs) hBo (ci := 0) rfl (lw_V q1353 q1355 qs18 q51 q1356) ⟨rfl, hdX1_checkedRegion⟩ rfl hl.1 rfl (Nat.le_of_ble_eq_true rfl) ⟨(Nat.le_of_ble_eq_true rfl), (Nat.le_of_ble_eq_true rfl)⟩ dX1_top_2) (by omega) (by omega)

set_option maxHeartbeats 1000000 in
theorem mex_X1_middleX_1 {w : pb_W} (l : Launch) {H : Heap} (hlx : l.stackTraces = false) (b : Nat) (fs : List Value) (hBo : pb_R w H b 0 fs) (s : Int) (hs : -2147483648 ≤ s ∧ s ≤ 2147483647) (bs : ¬ (0 ≤ s ∧ s ≤ 7)) : pb_X w l yX1_middleX cX1_middleX 3 (some .double) 8 (2) (10) [.ref (b), .int (iZ (s))] H (RJ9) := by
  refine pb_ofX (by decide +kernel) (Nat.le_of_ble_eq_true rfl) ?_
  intro p_ e_ s_ m_ ar_ bl_ me_ co_ ls C hh hG hl hT
  have hG0 := hG
  have hF : pb_F (fun _ => True) H H := pb_F.rf
  have hl : lv_has ls 3 [(0, .ref (b)), (1, .int (iZ (s)))] := hl
  refine pb_aload_n C dX1_middleX_0 rfl (lv_at hl 0 rfl) ?_
  refine pb_iload_n C dX1_middleX_1 rfl (lv_at hl 1 rfl) ?_
  exact pb_outX C hF hT (pb_runVX (rest := []) C hG (mex_X1_middleOf_1 l hlx b fs hBo s hs bs) hBo (ci := 0) rfl (lw_V q1681 q1683 qs26 q51 q1684) ⟨rfl, hdX1_middleOf⟩ rfl hl.1 rfl (Nat.le_of_ble_eq_true rfl) ⟨(Nat.le_of_ble_eq_true rfl), (Nat.le_of_ble_eq_true rfl)⟩ dX1_middleX_2) (by omega) (by omega)

set_option maxHeartbeats 1000000 in
theorem mex_X1_middleY_1 {w : pb_W} (l : Launch) {H : Heap} (hlx : l.stackTraces = false) (b : Nat) (fs : List Value) (hBo : pb_R w H b 0 fs) (s : Int) (hs : -2147483648 ≤ s ∧ s ≤ 2147483647) (bs : ¬ (0 ≤ s ∧ s ≤ 7)) : pb_X w l yX1_middleY cX1_middleY 3 (some .double) 8 (2) (10) [.ref (b), .int (iZ (s))] H (RJ9) := by
  refine pb_ofX (by decide +kernel) (Nat.le_of_ble_eq_true rfl) ?_
  intro p_ e_ s_ m_ ar_ bl_ me_ co_ ls C hh hG hl hT
  have hG0 := hG
  have hF : pb_F (fun _ => True) H H := pb_F.rf
  have hl : lv_has ls 3 [(0, .ref (b)), (1, .int (iZ (s)))] := hl
  refine pb_aload_n C dX1_middleY_0 rfl (lv_at hl 0 rfl) ?_
  refine pb_iload_n C dX1_middleY_1 rfl (lv_at hl 1 rfl) ?_
  exact pb_outX C hF hT (pb_runVX (rest := []) C hG (mex_X1_middleOf_1 l hlx b fs hBo s hs bs) hBo (ci := 0) rfl (lw_V q1681 q1683 qs26 q51 q1684) ⟨rfl, hdX1_middleOf⟩ rfl hl.1 rfl (Nat.le_of_ble_eq_true rfl) ⟨(Nat.le_of_ble_eq_true rfl), (Nat.le_of_ble_eq_true rfl)⟩ dX1_middleY_2) (by omega) (by omega)

set_option maxHeartbeats 1000000 in
theorem mex_X1_fullness_1 {w : pb_W} (l : Launch) {H : Heap} (hlx : l.stackTraces = false) (b : Nat) (fs : List Value) (hBo : pb_R w H b 0 fs) (s : Int) (hs : -2147483648 ≤ s ∧ s ≤ 2147483647) (bs : ¬ (0 ≤ s ∧ s ≤ 7)) : pb_X w l yX1_fullness cX1_fullness 5 (some .float) 8 (2) (10) [.ref (b), .int (iZ (s))] H (RJ9) := by
  refine pb_ofX (by decide +kernel) (Nat.le_of_ble_eq_true rfl) ?_
  intro p_ e_ s_ m_ ar_ bl_ me_ co_ ls C hh hG hl hT
  have hG0 := hG
  have hF : pb_F (fun _ => True) H H := pb_F.rf
  have hl : lv_has ls 5 [(0, .ref (b)), (1, .int (iZ (s)))] := hl
  refine pb_aload_n C dX1_fullness_0 rfl (lv_at hl 0 rfl) ?_
  refine pb_iload_n C dX1_fullness_1 rfl (lv_at hl 1 rfl) ?_
  exact pb_outX C hF hT (pb_runVX (rest := []) C hG (mex_X1_middleOf_1 l hlx b fs hBo s hs bs) hBo (ci := 0) rfl (lw_V q1681 q1683 qs26 q51 q1684) ⟨rfl, hdX1_middleOf⟩ rfl hl.1 rfl (Nat.le_of_ble_eq_true rfl) ⟨(Nat.le_of_ble_eq_true rfl), (Nat.le_of_ble_eq_true rfl)⟩ dX1_fullness_2) (by omega) (by omega)

set_option maxHeartbeats 1000000 in
theorem mex_X1_steps_1 {w : pb_W} (l : Launch) {H : Heap} (hlx : l.stackTraces = false) (b : Nat) (fs : List Value) (hBo : pb_R w H b 0 fs) (s : Int) (hs : -2147483648 ≤ s ∧ s ≤ 2147483647) (bs : ¬ (0 ≤ s ∧ s ≤ 7)) (x1 x2 x3 x4 : Int) : pb_X w l yX1_steps cX1_steps 7 (some .int) 8 (2) (10) [.ref (b), .int (iZ (s)), .int (iZ (x1)), .int (iZ (x2)), .int (iZ (x3)), .int (iZ (x4))] H (RJ9) := by
  refine pb_ofX (by decide +kernel) (Nat.le_of_ble_eq_true rfl) ?_
  intro p_ e_ s_ m_ ar_ bl_ me_ co_ ls C hh hG hl hT
  have hG0 := hG
  have hF : pb_F (fun _ => True) H H := pb_F.rf
  have hl : lv_has ls 7 [(0, .ref (b)), (1, .int (iZ (s))), (2, .int (iZ (x1))), (3, .int (iZ (x2))), (4, .int (iZ (x3))), (5, .int (iZ (x4)))] := hl
  refine pb_aload_n C dX1_steps_0 rfl (lv_at hl 0 rfl) ?_
  refine pb_iload_n C dX1_steps_1 rfl (lv_at hl 1 rfl) ?_
  refine pb_iload_n C dX1_steps_2 rfl (lv_at hl 2 rfl) ?_
  refine pb_iload_n C dX1_steps_3 rfl (lv_at hl 3 rfl) ?_
  refine pb_iload C dX1_steps_4 (lv_at hl 4 rfl) ?_
  refine pb_iload C dX1_steps_6 (lv_at hl 5 rfl) ?_
  exact pb_outX C hF hT (pb_runVX (rest := []) C hG (mex_X1_checkedCells_1 l hlx b fs hBo s hs bs x1 x2 x3 x4) hBo (ci := 0) rfl (lw_V q1548 q1550 qs23 q51 q1551) ⟨rfl, hdX1_checkedCells⟩ rfl hl.1 rfl (Nat.le_of_ble_eq_true rfl) ⟨(Nat.le_of_ble_eq_true rfl), (Nat.le_of_ble_eq_true rfl)⟩ dX1_steps_8) (by omega) (by omega)

set_option maxHeartbeats 1000000 in
theorem mex_X1_stepsByRows_1 {w : pb_W} (l : Launch) {H : Heap} (hlx : l.stackTraces = false) (b : Nat) (fs : List Value) (hBo : pb_R w H b 0 fs) (s : Int) (hs : -2147483648 ≤ s ∧ s ≤ 2147483647) (bs : ¬ (0 ≤ s ∧ s ≤ 7)) (x1 x2 x3 x4 : Int) : pb_X w l yX1_stepsByRows cX1_stepsByRows 10 (some .int) 8 (2) (10) [.ref (b), .int (iZ (s)), .int (iZ (x1)), .int (iZ (x2)), .int (iZ (x3)), .int (iZ (x4))] H (RJ9) := by
  refine pb_ofX (by decide +kernel) (Nat.le_of_ble_eq_true rfl) ?_
  intro p_ e_ s_ m_ ar_ bl_ me_ co_ ls C hh hG hl hT
  have hG0 := hG
  have hF : pb_F (fun _ => True) H H := pb_F.rf
  have hl : lv_has ls 10 [(0, .ref (b)), (1, .int (iZ (s))), (2, .int (iZ (x1))), (3, .int (iZ (x2))), (4, .int (iZ (x3))), (5, .int (iZ (x4)))] := hl
  refine pb_aload_n C dX1_stepsByRows_0 rfl (lv_at hl 0 rfl) ?_
  refine pb_iload_n C dX1_stepsByRows_1 rfl (lv_at hl 1 rfl) ?_
  refine pb_iload_n C dX1_stepsByRows_2 rfl (lv_at hl 2 rfl) ?_
  refine pb_iload_n C dX1_stepsByRows_3 rfl (lv_at hl 3 rfl) ?_
  refine pb_iload C dX1_stepsByRows_4 (lv_at hl 4 rfl) ?_
  refine pb_iload C dX1_stepsByRows_6 (lv_at hl 5 rfl) ?_
  exact pb_outX C hF hT (pb_runVX (rest := []) C hG (mex_X1_checkedCells_1 l hlx b fs hBo s hs bs x1 x2 x3 x4) hBo (ci := 0) rfl (lw_V q1548 q1550 qs23 q51 q1551) ⟨rfl, hdX1_checkedCells⟩ rfl hl.1 rfl (Nat.le_of_ble_eq_true rfl) ⟨(Nat.le_of_ble_eq_true rfl), (Nat.le_of_ble_eq_true rfl)⟩ dX1_stepsByRows_8) (by omega) (by omega)

set_option maxHeartbeats 1000000 in
theorem mex_X1_cornerCount_1 {w : pb_W} (l : Launch) {H : Heap} (hlx : l.stackTraces = false) (b : Nat) (fs : List Value) (hBo : pb_R w H b 0 fs) (s : Int) (hs : -2147483648 ≤ s ∧ s ≤ 2147483647) (bs : ¬ (0 ≤ s ∧ s ≤ 7)) (x1 : Int) : pb_X w l yX1_cornerCount cX1_cornerCount 3 (some .int) 8 (2) (10) [.ref (b), .int (iZ (s)), .int (iZ (x1))] H (RJ9) := by
  refine pb_ofX (by decide +kernel) (Nat.le_of_ble_eq_true rfl) ?_
  intro p_ e_ s_ m_ ar_ bl_ me_ co_ ls C hh hG hl hT
  have hG0 := hG
  have hF : pb_F (fun _ => True) H H := pb_F.rf
  have hl : lv_has ls 3 [(0, .ref (b)), (1, .int (iZ (s))), (2, .int (iZ (x1)))] := hl
  refine pb_aload_n C dX1_cornerCount_0 rfl (lv_at hl 0 rfl) ?_
  refine pb_iload_n C dX1_cornerCount_1 rfl (lv_at hl 1 rfl) ?_
  refine pb_iload_n C dX1_cornerCount_2 rfl (lv_at hl 2 rfl) ?_
  exact pb_outX C hF hT (pb_runVX (rest := []) C hG (mex_X1_outline_1 l hlx b fs hBo s hs bs x1) hBo (ci := 0) rfl (lw_V q1599 q1601 qs24 q51 q1602) ⟨rfl, hdX1_outline⟩ rfl hl.1 rfl (Nat.le_of_ble_eq_true rfl) ⟨(Nat.le_of_ble_eq_true rfl), (Nat.le_of_ble_eq_true rfl)⟩ dX1_cornerCount_3) (by omega) (by omega)

set_option maxHeartbeats 1000000 in
theorem mex_X1_signedArea_1 {w : pb_W} (l : Launch) {H : Heap} (hlx : l.stackTraces = false) (b : Nat) (fs : List Value) (hBo : pb_R w H b 0 fs) (s : Int) (hs : -2147483648 ≤ s ∧ s ≤ 2147483647) (bs : ¬ (0 ≤ s ∧ s ≤ 7)) (x1 : Int) : pb_X w l yX1_signedArea cX1_signedArea 3 (some .int) 8 (2) (10) [.ref (b), .int (iZ (s)), .int (iZ (x1))] H (RJ9) := by
  refine pb_ofX (by decide +kernel) (Nat.le_of_ble_eq_true rfl) ?_
  intro p_ e_ s_ m_ ar_ bl_ me_ co_ ls C hh hG hl hT
  have hG0 := hG
  have hF : pb_F (fun _ => True) H H := pb_F.rf
  have hl : lv_has ls 3 [(0, .ref (b)), (1, .int (iZ (s))), (2, .int (iZ (x1)))] := hl
  refine pb_aload_n C dX1_signedArea_0 rfl (lv_at hl 0 rfl) ?_
  refine pb_iload_n C dX1_signedArea_1 rfl (lv_at hl 1 rfl) ?_
  refine pb_iload_n C dX1_signedArea_2 rfl (lv_at hl 2 rfl) ?_
  exact pb_outX C hF hT (pb_runVX (rest := []) C hG (mex_X1_outline_1 l hlx b fs hBo s hs bs x1) hBo (ci := 0) rfl (lw_V q1599 q1601 qs24 q51 q1602) ⟨rfl, hdX1_outline⟩ rfl hl.1 rfl (Nat.le_of_ble_eq_true rfl) ⟨(Nat.le_of_ble_eq_true rfl), (Nat.le_of_ble_eq_true rfl)⟩ dX1_signedArea_3) (by omega) (by omega)

set_option maxHeartbeats 1000000 in
theorem mex_X1_outlineWith_1 {w : pb_W} (l : Launch) {H : Heap} (hlx : l.stackTraces = false) (b : Nat) (fs : List Value) (hBo : pb_R w H b 0 fs) (s : Int) (hs : -2147483648 ≤ s ∧ s ≤ 2147483647) (bs : ¬ (0 ≤ s ∧ s ≤ 7)) (x1 : Int) (x2 : Int) : pb_X w l yX1_outlineWith cX1_outlineWith 5 (some (.object "PolygonBoard$Outline")) 8 (2) (10) [.ref (b), .int (iZ (s)), .int (iZ (x1)), .int (iZ (x2))] H (RJ9) := by
  refine pb_ofX (by decide +kernel) (Nat.le_of_ble_eq_true rfl) ?_
  intro p_ e_ s_ m_ ar_ bl_ me_ co_ ls C hh hG hl hT
  have hG0 := hG
  have hF : pb_F (fun _ => True) H H := pb_F.rf
  have hl : lv_has ls 5 [(0, .ref (b)), (1, .int (iZ (s))), (2, .int (iZ (x1))), (3, .int (iZ (x2)))] := hl
  refine pb_aload_n C dX1_outlineWith_0 rfl (lv_at hl 0 rfl) ?_
  refine pb_iload_n C dX1_outlineWith_1 rfl (lv_at hl 1 rfl) ?_
  refine pb_iload_n C dX1_outlineWith_2 rfl (lv_at hl 2 rfl) ?_
  exact pb_outX C hF hT (pb_runVX (rest := []) C hG (mex_X1_outline_1 l hlx b fs hBo s hs bs x1) hBo (ci := 0) rfl (lw_V q1599 q1601 qs24 q51 q1602) ⟨rfl, hdX1_outline⟩ rfl hl.1 rfl (Nat.le_of_ble_eq_true rfl) ⟨(Nat.le_of_ble_eq_true rfl), (Nat.le_of_ble_eq_true rfl)⟩ dX1_outlineWith_3) (by omega) (by omega)

set_option maxHeartbeats 1000000 in
theorem mex_X1_cornerX_1 {w : pb_W} (l : Launch) {H : Heap} (hlx : l.stackTraces = false) (b : Nat) (fs : List Value) (hBo : pb_R w H b 0 fs) (s : Int) (hs : -2147483648 ≤ s ∧ s ≤ 2147483647) (bs : ¬ (0 ≤ s ∧ s ≤ 7)) (x1 x2 : Int) : pb_X w l yX1_cornerX cX1_cornerX 4 (some .int) 9 (2) (10) [.ref (b), .int (iZ (s)), .int (iZ (x1)), .int (iZ (x2))] H (RJ9) := by
  refine pb_ofX (by decide +kernel) (Nat.le_of_ble_eq_true rfl) ?_
  intro p_ e_ s_ m_ ar_ bl_ me_ co_ ls C hh hG hl hT
  have hG0 := hG
  have hF : pb_F (fun _ => True) H H := pb_F.rf
  have hl : lv_has ls 4 [(0, .ref (b)), (1, .int (iZ (s))), (2, .int (iZ (x1))), (3, .int (iZ (x2)))] := hl
  refine pb_aload_n C dX1_cornerX_0 rfl (lv_at hl 0 rfl) ?_
  refine pb_iload_n C dX1_cornerX_1 rfl (lv_at hl 1 rfl) ?_
  refine pb_iload_n C dX1_cornerX_2 rfl (lv_at hl 2 rfl) ?_
  refine pb_iload_n C dX1_cornerX_3 rfl (lv_at hl 3 rfl) ?_
  exact pb_outX C hF hT (pb_runVX (rest := []) C hG (mex_X1_outlineWith_1 l hlx b fs hBo s hs bs x1 x2) hBo (ci := 0) rfl (lw_V q1610 q1612 qs25 q51 q1613) ⟨rfl, hdX1_outlineWith⟩ rfl hl.1 rfl (Nat.le_of_ble_eq_true rfl) ⟨(Nat.le_of_ble_eq_true rfl), (Nat.le_of_ble_eq_true rfl)⟩ dX1_cornerX_4) (by omega) (by omega)

set_option maxHeartbeats 1000000 in
theorem mex_X1_cornerY_1 {w : pb_W} (l : Launch) {H : Heap} (hlx : l.stackTraces = false) (b : Nat) (fs : List Value) (hBo : pb_R w H b 0 fs) (s : Int) (hs : -2147483648 ≤ s ∧ s ≤ 2147483647) (bs : ¬ (0 ≤ s ∧ s ≤ 7)) (x1 x2 : Int) : pb_X w l yX1_cornerY cX1_cornerY 4 (some .int) 9 (2) (10) [.ref (b), .int (iZ (s)), .int (iZ (x1)), .int (iZ (x2))] H (RJ9) := by
  refine pb_ofX (by decide +kernel) (Nat.le_of_ble_eq_true rfl) ?_
  intro p_ e_ s_ m_ ar_ bl_ me_ co_ ls C hh hG hl hT
  have hG0 := hG
  have hF : pb_F (fun _ => True) H H := pb_F.rf
  have hl : lv_has ls 4 [(0, .ref (b)), (1, .int (iZ (s))), (2, .int (iZ (x1))), (3, .int (iZ (x2)))] := hl
  refine pb_aload_n C dX1_cornerY_0 rfl (lv_at hl 0 rfl) ?_
  refine pb_iload_n C dX1_cornerY_1 rfl (lv_at hl 1 rfl) ?_
  refine pb_iload_n C dX1_cornerY_2 rfl (lv_at hl 2 rfl) ?_
  refine pb_iload_n C dX1_cornerY_3 rfl (lv_at hl 3 rfl) ?_
  exact pb_outX C hF hT (pb_runVX (rest := []) C hG (mex_X1_outlineWith_1 l hlx b fs hBo s hs bs x1 x2) hBo (ci := 0) rfl (lw_V q1610 q1612 qs25 q51 q1613) ⟨rfl, hdX1_outlineWith⟩ rfl hl.1 rfl (Nat.le_of_ble_eq_true rfl) ⟨(Nat.le_of_ble_eq_true rfl), (Nat.le_of_ble_eq_true rfl)⟩ dX1_cornerY_4) (by omega) (by omega)

set_option maxHeartbeats 1000000 in
theorem mex_X1_grow_1 {w : pb_W} (l : Launch) {H : Heap} (hlx : l.stackTraces = false) (b sl : Nat) (pv : Value) (V : List Nat) (P : Nat → Prop) (G : Nat → Nat → Nat) (hS : Sq w H P b sl pv V G) (s t : Int) (hs : -2147483648 ≤ s ∧ s ≤ 2147483647) (ht : -2147483648 ≤ t ∧ t ≤ 2147483647) (hb : ¬ ((0 ≤ s ∧ s ≤ 7) ∧ 0 ≤ t ∧ t ≤ 7)) (x1 : Int) : pb_X w l yX1_grow cX1_grow 5 (some .int) 8 (1) (6) [.ref (b), .int (iZ (s)), .int (iZ (x1)), .int (iZ (t))] H (RJ9) := by
  refine pb_ofX (by decide +kernel) (Nat.le_of_ble_eq_true rfl) ?_
  intro p_ e_ s_ m_ ar_ bl_ me_ co_ ls C hh hG hl hT
  have hG0 := hG
  have hF : pb_F (fun _ => True) H H := pb_F.rf
  have hl : lv_has ls 5 [(0, .ref (b)), (1, .int (iZ (s))), (2, .int (iZ (x1))), (3, .int (iZ (t)))] := hl
  obtain ⟨hPb, hBo, hLr, hV8⟩ := id hS.1
  refine pb_aload_n C dX1_grow_0 rfl (lv_at hl 0 rfl) ?_
  refine pb_iload_n C dX1_grow_1 rfl (lv_at hl 1 rfl) ?_
  refine pb_iload_n C dX1_grow_2 rfl (lv_at hl 3 rfl) ?_
  exact pb_outX C hF hT (pb_runVX (rest := []) C hG (mex_X1_regionFor l hlx b sl pv V P G hS s t hs ht hb) hBo (ci := 0) rfl (lw_V q865 q867 qs12 q51 q868) ⟨rfl, hdX1_regionFor⟩ rfl hl.1 rfl (Nat.le_of_ble_eq_true rfl) ⟨(Nat.le_of_ble_eq_true rfl), (Nat.le_of_ble_eq_true rfl)⟩ dX1_grow_3) (by omega) (by omega)

set_option maxHeartbeats 1000000 in
theorem mex_X1_shrink_1 {w : pb_W} (l : Launch) {H : Heap} (hlx : l.stackTraces = false) (b sl : Nat) (pv : Value) (V : List Nat) (P : Nat → Prop) (G : Nat → Nat → Nat) (hS : Sq w H P b sl pv V G) (s t : Int) (hs : -2147483648 ≤ s ∧ s ≤ 2147483647) (ht : -2147483648 ≤ t ∧ t ≤ 2147483647) (hb : ¬ ((0 ≤ s ∧ s ≤ 7) ∧ 0 ≤ t ∧ t ≤ 7)) (x1 : Int) : pb_X w l yX1_shrink cX1_shrink 5 (some .int) 8 (1) (6) [.ref (b), .int (iZ (s)), .int (iZ (x1)), .int (iZ (t))] H (RJ9) := by
  refine pb_ofX (by decide +kernel) (Nat.le_of_ble_eq_true rfl) ?_
  intro p_ e_ s_ m_ ar_ bl_ me_ co_ ls C hh hG hl hT
  have hG0 := hG
  have hF : pb_F (fun _ => True) H H := pb_F.rf
  have hl : lv_has ls 5 [(0, .ref (b)), (1, .int (iZ (s))), (2, .int (iZ (x1))), (3, .int (iZ (t)))] := hl
  obtain ⟨hPb, hBo, hLr, hV8⟩ := id hS.1
  refine pb_aload_n C dX1_shrink_0 rfl (lv_at hl 0 rfl) ?_
  refine pb_iload_n C dX1_shrink_1 rfl (lv_at hl 1 rfl) ?_
  refine pb_iload_n C dX1_shrink_2 rfl (lv_at hl 3 rfl) ?_
  exact pb_outX C hF hT (pb_runVX (rest := []) C hG (mex_X1_regionFor l hlx b sl pv V P G hS s t hs ht hb) hBo (ci := 0) rfl (lw_V q865 q867 qs12 q51 q868) ⟨rfl, hdX1_regionFor⟩ rfl hl.1 rfl (Nat.le_of_ble_eq_true rfl) ⟨(Nat.le_of_ble_eq_true rfl), (Nat.le_of_ble_eq_true rfl)⟩ dX1_shrink_3) (by omega) (by omega)

set_option maxHeartbeats 1000000 in
theorem mex_X1_move_1 {w : pb_W} (l : Launch) {H : Heap} (hlx : l.stackTraces = false) (b sl : Nat) (pv : Value) (V : List Nat) (P : Nat → Prop) (G : Nat → Nat → Nat) (hS : Sq w H P b sl pv V G) (s t : Int) (hs : -2147483648 ≤ s ∧ s ≤ 2147483647) (ht : -2147483648 ≤ t ∧ t ≤ 2147483647) (hb : ¬ ((0 ≤ s ∧ s ≤ 7) ∧ 0 ≤ t ∧ t ≤ 7)) (x1 : Int) (x2 : Int) : pb_X w l yX1_move cX1_move 6 (some .int) 8 (1) (6) [.ref (b), .int (iZ (s)), .int (iZ (x1)), .int (iZ (x2)), .int (iZ (t))] H (RJ9) := by
  refine pb_ofX (by decide +kernel) (Nat.le_of_ble_eq_true rfl) ?_
  intro p_ e_ s_ m_ ar_ bl_ me_ co_ ls C hh hG hl hT
  have hG0 := hG
  have hF : pb_F (fun _ => True) H H := pb_F.rf
  have hl : lv_has ls 6 [(0, .ref (b)), (1, .int (iZ (s))), (2, .int (iZ (x1))), (3, .int (iZ (x2))), (4, .int (iZ (t)))] := hl
  obtain ⟨hPb, hBo, hLr, hV8⟩ := id hS.1
  refine pb_aload_n C dX1_move_0 rfl (lv_at hl 0 rfl) ?_
  refine pb_iload_n C dX1_move_1 rfl (lv_at hl 1 rfl) ?_
  refine pb_iload C dX1_move_2 (lv_at hl 4 rfl) ?_
  exact pb_outX C hF hT (pb_runVX (rest := []) C hG (mex_X1_regionFor l hlx b sl pv V P G hS s t hs ht hb) hBo (ci := 0) rfl (lw_V q865 q867 qs12 q51 q868) ⟨rfl, hdX1_regionFor⟩ rfl hl.1 rfl (Nat.le_of_ble_eq_true rfl) ⟨(Nat.le_of_ble_eq_true rfl), (Nat.le_of_ble_eq_true rfl)⟩ dX1_move_4) (by omega) (by omega)

set_option maxHeartbeats 1000000 in
theorem mex_X1_turn_1 {w : pb_W} (l : Launch) {H : Heap} (hlx : l.stackTraces = false) (b sl : Nat) (pv : Value) (V : List Nat) (P : Nat → Prop) (G : Nat → Nat → Nat) (hS : Sq w H P b sl pv V G) (s t : Int) (hs : -2147483648 ≤ s ∧ s ≤ 2147483647) (ht : -2147483648 ≤ t ∧ t ≤ 2147483647) (hb : ¬ ((0 ≤ s ∧ s ≤ 7) ∧ 0 ≤ t ∧ t ≤ 7))  : pb_X w l yX1_turn cX1_turn 3 (some .int) 8 (1) (6) [.ref (b), .int (iZ (s)), .int (iZ (t))] H (RJ9) := by
  refine pb_ofX (by decide +kernel) (Nat.le_of_ble_eq_true rfl) ?_
  intro p_ e_ s_ m_ ar_ bl_ me_ co_ ls C hh hG hl hT
  have hG0 := hG
  have hF : pb_F (fun _ => True) H H := pb_F.rf
  have hl : lv_has ls 3 [(0, .ref (b)), (1, .int (iZ (s))), (2, .int (iZ (t)))] := hl
  obtain ⟨hPb, hBo, hLr, hV8⟩ := id hS.1
  refine pb_aload_n C dX1_turn_0 rfl (lv_at hl 0 rfl) ?_
  refine pb_iload_n C dX1_turn_1 rfl (lv_at hl 2 rfl) ?_
  refine pb_aload_n C dX1_turn_2 rfl (lv_at hl 0 rfl) ?_
  refine pb_iload_n C dX1_turn_3 rfl (lv_at hl 1 rfl) ?_
  refine pb_iload_n C dX1_turn_4 rfl (lv_at hl 2 rfl) ?_
  exact pb_outX C hF hT (pb_runVX (rest := [.int (iZ (t)), .ref (b)]) C hG (mex_X1_regionFor l hlx b sl pv V P G hS s t hs ht hb) hBo (ci := 0) rfl (lw_V q865 q867 qs12 q51 q868) ⟨rfl, hdX1_regionFor⟩ rfl hl.1 rfl (Nat.le_of_ble_eq_true rfl) ⟨(Nat.le_of_ble_eq_true rfl), (Nat.le_of_ble_eq_true rfl)⟩ dX1_turn_5) (by omega) (by omega)

set_option maxHeartbeats 1000000 in
theorem mex_X1_mirror_1 {w : pb_W} (l : Launch) {H : Heap} (hlx : l.stackTraces = false) (b sl : Nat) (pv : Value) (V : List Nat) (P : Nat → Prop) (G : Nat → Nat → Nat) (hS : Sq w H P b sl pv V G) (s t : Int) (hs : -2147483648 ≤ s ∧ s ≤ 2147483647) (ht : -2147483648 ≤ t ∧ t ≤ 2147483647) (hb : ¬ ((0 ≤ s ∧ s ≤ 7) ∧ 0 ≤ t ∧ t ≤ 7))  : pb_X w l yX1_mirror cX1_mirror 3 (some .int) 8 (1) (6) [.ref (b), .int (iZ (s)), .int (iZ (t))] H (RJ9) := by
  refine pb_ofX (by decide +kernel) (Nat.le_of_ble_eq_true rfl) ?_
  intro p_ e_ s_ m_ ar_ bl_ me_ co_ ls C hh hG hl hT
  have hG0 := hG
  have hF : pb_F (fun _ => True) H H := pb_F.rf
  have hl : lv_has ls 3 [(0, .ref (b)), (1, .int (iZ (s))), (2, .int (iZ (t)))] := hl
  obtain ⟨hPb, hBo, hLr, hV8⟩ := id hS.1
  refine pb_aload_n C dX1_mirror_0 rfl (lv_at hl 0 rfl) ?_
  refine pb_iload_n C dX1_mirror_1 rfl (lv_at hl 2 rfl) ?_
  refine pb_aload_n C dX1_mirror_2 rfl (lv_at hl 0 rfl) ?_
  refine pb_iload_n C dX1_mirror_3 rfl (lv_at hl 1 rfl) ?_
  refine pb_iload_n C dX1_mirror_4 rfl (lv_at hl 2 rfl) ?_
  exact pb_outX C hF hT (pb_runVX (rest := [.int (iZ (t)), .ref (b)]) C hG (mex_X1_regionFor l hlx b sl pv V P G hS s t hs ht hb) hBo (ci := 0) rfl (lw_V q865 q867 qs12 q51 q868) ⟨rfl, hdX1_regionFor⟩ rfl hl.1 rfl (Nat.le_of_ble_eq_true rfl) ⟨(Nat.le_of_ble_eq_true rfl), (Nat.le_of_ble_eq_true rfl)⟩ dX1_mirror_5) (by omega) (by omega)

set_option maxHeartbeats 1000000 in
theorem mex_X1_fillHoles_1 {w : pb_W} (l : Launch) {H : Heap} (hlx : l.stackTraces = false) (b sl : Nat) (pv : Value) (V : List Nat) (P : Nat → Prop) (G : Nat → Nat → Nat) (hS : Sq w H P b sl pv V G) (s t : Int) (hs : -2147483648 ≤ s ∧ s ≤ 2147483647) (ht : -2147483648 ≤ t ∧ t ≤ 2147483647) (hb : ¬ ((0 ≤ s ∧ s ≤ 7) ∧ 0 ≤ t ∧ t ≤ 7))  : pb_X w l yX1_fillHoles cX1_fillHoles 5 (some .int) 8 (1) (6) [.ref (b), .int (iZ (s)), .int (iZ (t))] H (RJ9) := by
  refine pb_ofX (by decide +kernel) (Nat.le_of_ble_eq_true rfl) ?_
  intro p_ e_ s_ m_ ar_ bl_ me_ co_ ls C hh hG hl hT
  have hG0 := hG
  have hF : pb_F (fun _ => True) H H := pb_F.rf
  have hl : lv_has ls 5 [(0, .ref (b)), (1, .int (iZ (s))), (2, .int (iZ (t)))] := hl
  obtain ⟨hPb, hBo, hLr, hV8⟩ := id hS.1
  refine pb_aload_n C dX1_fillHoles_0 rfl (lv_at hl 0 rfl) ?_
  refine pb_iload_n C dX1_fillHoles_1 rfl (lv_at hl 1 rfl) ?_
  refine pb_iload_n C dX1_fillHoles_2 rfl (lv_at hl 2 rfl) ?_
  exact pb_outX C hF hT (pb_runVX (rest := []) C hG (mex_X1_regionFor l hlx b sl pv V P G hS s t hs ht hb) hBo (ci := 0) rfl (lw_V q865 q867 qs12 q51 q868) ⟨rfl, hdX1_regionFor⟩ rfl hl.1 rfl (Nat.le_of_ble_eq_true rfl) ⟨(Nat.le_of_ble_eq_true rfl), (Nat.le_of_ble_eq_true rfl)⟩ dX1_fillHoles_3) (by omega) (by omega)

set_option maxHeartbeats 1000000 in
theorem mex_X1_keepPart_1 {w : pb_W} (l : Launch) {H : Heap} (hlx : l.stackTraces = false) (b sl : Nat) (pv : Value) (V : List Nat) (P : Nat → Prop) (G : Nat → Nat → Nat) (hS : Sq w H P b sl pv V G) (s t : Int) (hs : -2147483648 ≤ s ∧ s ≤ 2147483647) (ht : -2147483648 ≤ t ∧ t ≤ 2147483647) (hb : ¬ ((0 ≤ s ∧ s ≤ 7) ∧ 0 ≤ t ∧ t ≤ 7)) (x1 : Int) (x2 : Int) : pb_X w l yX1_keepPart cX1_keepPart 8 (some .int) 8 (1) (6) [.ref (b), .int (iZ (s)), .int (iZ (x1)), .int (iZ (x2)), .int (iZ (t))] H (RJ9) := by
  refine pb_ofX (by decide +kernel) (Nat.le_of_ble_eq_true rfl) ?_
  intro p_ e_ s_ m_ ar_ bl_ me_ co_ ls C hh hG hl hT
  have hG0 := hG
  have hF : pb_F (fun _ => True) H H := pb_F.rf
  have hl : lv_has ls 8 [(0, .ref (b)), (1, .int (iZ (s))), (2, .int (iZ (x1))), (3, .int (iZ (x2))), (4, .int (iZ (t)))] := hl
  obtain ⟨hPb, hBo, hLr, hV8⟩ := id hS.1
  refine pb_aload_n C dX1_keepPart_0 rfl (lv_at hl 0 rfl) ?_
  refine pb_iload_n C dX1_keepPart_1 rfl (lv_at hl 1 rfl) ?_
  refine pb_iload C dX1_keepPart_2 (lv_at hl 4 rfl) ?_
  exact pb_outX C hF hT (pb_runVX (rest := []) C hG (mex_X1_regionFor l hlx b sl pv V P G hS s t hs ht hb) hBo (ci := 0) rfl (lw_V q865 q867 qs12 q51 q868) ⟨rfl, hdX1_regionFor⟩ rfl hl.1 rfl (Nat.le_of_ble_eq_true rfl) ⟨(Nat.le_of_ble_eq_true rfl), (Nat.le_of_ble_eq_true rfl)⟩ dX1_keepPart_4) (by omega) (by omega)

set_option maxHeartbeats 1000000 in
theorem mex_X1_isSame_1 {w : pb_W} (l : Launch) {H : Heap} (hlx : l.stackTraces = false) (b sl : Nat) (pv : Value) (V : List Nat) (P : Nat → Prop) (G : Nat → Nat → Nat) (hS : Sq w H P b sl pv V G) (s t : Int) (hs : -2147483648 ≤ s ∧ s ≤ 2147483647) (ht : -2147483648 ≤ t ∧ t ≤ 2147483647) (hb : ¬ ((0 ≤ s ∧ s ≤ 7) ∧ 0 ≤ t ∧ t ≤ 7))  : pb_X w l yX1_isSame cX1_isSame 4 (some .boolean) 8 (1) (6) [.ref (b), .int (iZ (s)), .int (iZ (t))] H (RJ9) := by
  refine pb_ofX (by decide +kernel) (Nat.le_of_ble_eq_true rfl) ?_
  intro p_ e_ s_ m_ ar_ bl_ me_ co_ ls C hh hG hl hT
  have hG0 := hG
  have hF : pb_F (fun _ => True) H H := pb_F.rf
  have hl : lv_has ls 4 [(0, .ref (b)), (1, .int (iZ (s))), (2, .int (iZ (t)))] := hl
  obtain ⟨hPb, hBo, hLr, hV8⟩ := id hS.1
  refine pb_aload_n C dX1_isSame_0 rfl (lv_at hl 0 rfl) ?_
  refine pb_iload_n C dX1_isSame_1 rfl (lv_at hl 1 rfl) ?_
  refine pb_iload_n C dX1_isSame_2 rfl (lv_at hl 2 rfl) ?_
  exact pb_outX C hF hT (pb_runVX (rest := []) C hG (mex_X1_regionFor l hlx b sl pv V P G hS s t hs ht hb) hBo (ci := 0) rfl (lw_V q865 q867 qs12 q51 q868) ⟨rfl, hdX1_regionFor⟩ rfl hl.1 rfl (Nat.le_of_ble_eq_true rfl) ⟨(Nat.le_of_ble_eq_true rfl), (Nat.le_of_ble_eq_true rfl)⟩ dX1_isSame_3) (by omega) (by omega)

set_option maxHeartbeats 1000000 in
theorem mex_X1_covers_1 {w : pb_W} (l : Launch) {H : Heap} (hlx : l.stackTraces = false) (b sl : Nat) (pv : Value) (V : List Nat) (P : Nat → Prop) (G : Nat → Nat → Nat) (hS : Sq w H P b sl pv V G) (s t : Int) (hs : -2147483648 ≤ s ∧ s ≤ 2147483647) (ht : -2147483648 ≤ t ∧ t ≤ 2147483647) (hb : ¬ ((0 ≤ s ∧ s ≤ 7) ∧ 0 ≤ t ∧ t ≤ 7))  : pb_X w l yX1_covers cX1_covers 4 (some .boolean) 8 (1) (6) [.ref (b), .int (iZ (s)), .int (iZ (t))] H (RJ9) := by
  refine pb_ofX (by decide +kernel) (Nat.le_of_ble_eq_true rfl) ?_
  intro p_ e_ s_ m_ ar_ bl_ me_ co_ ls C hh hG hl hT
  have hG0 := hG
  have hF : pb_F (fun _ => True) H H := pb_F.rf
  have hl : lv_has ls 4 [(0, .ref (b)), (1, .int (iZ (s))), (2, .int (iZ (t)))] := hl
  obtain ⟨hPb, hBo, hLr, hV8⟩ := id hS.1
  refine pb_aload_n C dX1_covers_0 rfl (lv_at hl 0 rfl) ?_
  refine pb_iload_n C dX1_covers_1 rfl (lv_at hl 1 rfl) ?_
  refine pb_iload_n C dX1_covers_2 rfl (lv_at hl 2 rfl) ?_
  exact pb_outX C hF hT (pb_runVX (rest := []) C hG (mex_X1_regionFor l hlx b sl pv V P G hS s t hs ht hb) hBo (ci := 0) rfl (lw_V q865 q867 qs12 q51 q868) ⟨rfl, hdX1_regionFor⟩ rfl hl.1 rfl (Nat.le_of_ble_eq_true rfl) ⟨(Nat.le_of_ble_eq_true rfl), (Nat.le_of_ble_eq_true rfl)⟩ dX1_covers_3) (by omega) (by omega)

set_option maxHeartbeats 1000000 in
theorem mex_X1_combine_1a {w : pb_W} (l : Launch) {H : Heap} (hlx : l.stackTraces = false) (b sl : Nat) (pv : Value) (V : List Nat) (P : Nat → Prop) (G : Nat → Nat → Nat) (hS : Sq w H P b sl pv V G) (s : Int) (hs : -2147483648 ≤ s ∧ s ≤ 2147483647) (bs : ¬ (0 ≤ s ∧ s ≤ 7)) (t : Int) (u : Int) (c : Int) : pb_X w l yX1_combine cX1_combine 8 (some .int) 7 (1) (6) [.ref (b), .int (iZ (c)), .int (iZ (s)), .int (iZ (t)), .int (iZ (u))] H (RJ9) := by
  refine pb_ofX (by decide +kernel) (Nat.le_of_ble_eq_true rfl) ?_
  intro p_ e_ s_ m_ ar_ bl_ me_ co_ ls C hh hG hl hT
  have hG0 := hG
  have hF : pb_F (fun _ => True) H H := pb_F.rf
  have hl : lv_has ls 8 [(0, .ref (b)), (1, .int (iZ (c))), (2, .int (iZ (s))), (3, .int (iZ (t))), (4, .int (iZ (u)))] := hl
  obtain ⟨hPb, hBo, hLr, hV8⟩ := id hS.1
  refine pb_aload_n C dX1_combine_0 rfl (lv_at hl 0 rfl) ?_
  refine pb_iload_n C dX1_combine_1 rfl (lv_at hl 2 rfl) ?_
  exact pb_outX C hF hT (pb_runVX (rest := []) C hG (mex_X1_region l hlx b s hs bs) hBo (ci := 0) rfl (lw_V q325 q327 qs4 q51 q328) ⟨rfl, hdX1_region⟩ rfl hl.1 rfl (Nat.le_of_ble_eq_true rfl) ⟨(Nat.le_of_ble_eq_true rfl), (Nat.le_of_ble_eq_true rfl)⟩ dX1_combine_2) (by omega) (by omega)

set_option maxHeartbeats 1000000 in
theorem mex_X1_combine_1b {w : pb_W} (l : Launch) {H : Heap} (hlx : l.stackTraces = false) (b sl : Nat) (pv : Value) (V : List Nat) (P : Nat → Prop) (G : Nat → Nat → Nat) (hS : Sq w H P b sl pv V G) (s : Nat) (hs : s < 8) (t : Int) (ht : -2147483648 ≤ t ∧ t ≤ 2147483647) (bt : ¬ (0 ≤ t ∧ t ≤ 7)) (u : Int) (c : Int) : pb_X w l yX1_combine cX1_combine 8 (some .int) 7 (1) (6) [.ref (b), .int (iZ (c)), .int (iZ (((s : Nat) : Int))), .int (iZ (t)), .int (iZ (u))] H (RJ9) := by
  refine pb_ofX (by decide +kernel) (Nat.le_of_ble_eq_true rfl) ?_
  intro p_ e_ s_ m_ ar_ bl_ me_ co_ ls C hh hG hl hT
  have hG0 := hG
  have hF : pb_F (fun _ => True) H H := pb_F.rf
  have hl : lv_has ls 8 [(0, .ref (b)), (1, .int (iZ (c))), (2, .int (iZ (((s : Nat) : Int)))), (3, .int (iZ (t))), (4, .int (iZ (u)))] := hl
  obtain ⟨hPb, hBo, hLr, hV8⟩ := id hS.1
  refine pb_aload_n C dX1_combine_0 rfl (lv_at hl 0 rfl) ?_
  refine pb_iload_n C dX1_combine_1 rfl (lv_at hl 2 rfl) ?_
  refine pb_go_x (bc' := 1) (bs' := 6) (pb_runV (rest := []) C hG (met_X1_region l b sl pv V _ G hS s hs) hBo (ci := 0) rfl (lw_V q325 q327 qs4 q51 q328) ⟨rfl, hdX1_region⟩ rfl hl.1 rfl (Nat.le_of_ble_eq_true rfl) ⟨(Nat.le_of_ble_eq_true rfl), (Nat.le_of_ble_eq_true rfl)⟩ dX1_combine_2) (by omega) (by omega) ?_
  refine pb_astore C dX1_combine_5 hl (by decide) rfl fun ls hl => ?_
  have hl : lv_has ls 8 [(5, .ref ((nV V s))), (0, .ref (b)), (1, .int (iZ (c))), (2, .int (iZ (((s : Nat) : Int)))), (3, .int (iZ (t))), (4, .int (iZ (u)))] := hl
  refine pb_aload_n C dX1_combine_7 rfl (lv_at hl 1 rfl) ?_
  refine pb_iload_n C dX1_combine_8 rfl (lv_at hl 4 rfl) ?_
  exact pb_outX C hF hT (pb_runVX (rest := []) C hG (mex_X1_region l hlx b t ht bt) hBo (ci := 0) rfl (lw_V q325 q327 qs4 q51 q328) ⟨rfl, hdX1_region⟩ rfl hl.1 rfl (Nat.le_of_ble_eq_true rfl) ⟨(Nat.le_of_ble_eq_true rfl), (Nat.le_of_ble_eq_true rfl)⟩ dX1_combine_9) (by omega) (by omega)

set_option maxHeartbeats 1000000 in
theorem mex_X1_combine_1c {w : pb_W} (l : Launch) {H : Heap} (hlx : l.stackTraces = false) (b sl : Nat) (pv : Value) (V : List Nat) (P : Nat → Prop) (G : Nat → Nat → Nat) (hS : Sq w H P b sl pv V G) (s : Nat) (hs : s < 8) (t : Nat) (ht : t < 8) (u : Int) (hu : -2147483648 ≤ u ∧ u ≤ 2147483647) (bu : ¬ (0 ≤ u ∧ u ≤ 7)) (c : Int) : pb_X w l yX1_combine cX1_combine 8 (some .int) 7 (1) (6) [.ref (b), .int (iZ (c)), .int (iZ (((s : Nat) : Int))), .int (iZ (((t : Nat) : Int))), .int (iZ (u))] H (RJ9) := by
  refine pb_ofX (by decide +kernel) (Nat.le_of_ble_eq_true rfl) ?_
  intro p_ e_ s_ m_ ar_ bl_ me_ co_ ls C hh hG hl hT
  have hG0 := hG
  have hF : pb_F (fun _ => True) H H := pb_F.rf
  have hl : lv_has ls 8 [(0, .ref (b)), (1, .int (iZ (c))), (2, .int (iZ (((s : Nat) : Int)))), (3, .int (iZ (((t : Nat) : Int)))), (4, .int (iZ (u)))] := hl
  obtain ⟨hPb, hBo, hLr, hV8⟩ := id hS.1
  refine pb_aload_n C dX1_combine_0 rfl (lv_at hl 0 rfl) ?_
  refine pb_iload_n C dX1_combine_1 rfl (lv_at hl 2 rfl) ?_
  refine pb_go_x (bc' := 1) (bs' := 6) (pb_runV (rest := []) C hG (met_X1_region l b sl pv V _ G hS s hs) hBo (ci := 0) rfl (lw_V q325 q327 qs4 q51 q328) ⟨rfl, hdX1_region⟩ rfl hl.1 rfl (Nat.le_of_ble_eq_true rfl) ⟨(Nat.le_of_ble_eq_true rfl), (Nat.le_of_ble_eq_true rfl)⟩ dX1_combine_2) (by omega) (by omega) ?_
  refine pb_astore C dX1_combine_5 hl (by decide) rfl fun ls hl => ?_
  have hl : lv_has ls 8 [(5, .ref ((nV V s))), (0, .ref (b)), (1, .int (iZ (c))), (2, .int (iZ (((s : Nat) : Int)))), (3, .int (iZ (((t : Nat) : Int)))), (4, .int (iZ (u)))] := hl
  refine pb_aload_n C dX1_combine_7 rfl (lv_at hl 1 rfl) ?_
  refine pb_iload_n C dX1_combine_8 rfl (lv_at hl 4 rfl) ?_
  refine pb_go_x (bc' := 1) (bs' := 6) (pb_runV (rest := []) C hG (met_X1_region l b sl pv V _ G hS t ht) hBo (ci := 0) rfl (lw_V q325 q327 qs4 q51 q328) ⟨rfl, hdX1_region⟩ rfl hl.1 rfl (Nat.le_of_ble_eq_true rfl) ⟨(Nat.le_of_ble_eq_true rfl), (Nat.le_of_ble_eq_true rfl)⟩ dX1_combine_9) (by omega) (by omega) ?_
  refine pb_astore C dX1_combine_12 hl (by decide) rfl fun ls hl => ?_
  have hl : lv_has ls 8 [(6, .ref ((nV V t))), (5, .ref ((nV V s))), (0, .ref (b)), (1, .int (iZ (c))), (2, .int (iZ (((s : Nat) : Int)))), (3, .int (iZ (((t : Nat) : Int)))), (4, .int (iZ (u)))] := hl
  refine pb_aload_n C dX1_combine_14 rfl (lv_at hl 2 rfl) ?_
  refine pb_iload C dX1_combine_15 (lv_at hl 6 rfl) ?_
  exact pb_outX C hF hT (pb_runVX (rest := []) C hG (mex_X1_region l hlx b u hu bu) hBo (ci := 0) rfl (lw_V q325 q327 qs4 q51 q328) ⟨rfl, hdX1_region⟩ rfl hl.1 rfl (Nat.le_of_ble_eq_true rfl) ⟨(Nat.le_of_ble_eq_true rfl), (Nat.le_of_ble_eq_true rfl)⟩ dX1_combine_17) (by omega) (by omega)

theorem mex_X1_combine_1 {w : pb_W} (l : Launch) {H : Heap} (hlx : l.stackTraces = false) (b sl : Nat) (pv : Value) (V : List Nat) (P : Nat → Prop) (G : Nat → Nat → Nat) (hS : Sq w H P b sl pv V G) (c s t u : Int) (hs : -2147483648 ≤ s ∧ s ≤ 2147483647) (ht : -2147483648 ≤ t ∧ t ≤ 2147483647) (hu : -2147483648 ≤ u ∧ u ≤ 2147483647) (hb : ¬ ((0 ≤ s ∧ s ≤ 7) ∧ (0 ≤ t ∧ t ≤ 7) ∧ 0 ≤ u ∧ u ≤ 7)) : pb_X w l yX1_combine cX1_combine 8 (some .int) 7 1 6 [.ref b, .int (iZ c), .int (iZ s), .int (iZ t), .int (iZ u)] H RJ9 := by
  by_cases h : 0 ≤ s ∧ s ≤ 7
  · obtain ⟨n, rfl, hn⟩ := sh_nat h
    by_cases h2 : 0 ≤ t ∧ t ≤ 7
    · obtain ⟨n2, rfl, hn2⟩ := sh_nat h2
      exact mex_X1_combine_1c l hlx b sl pv V P G hS n hn n2 hn2 u hu (fun h9 => hb ⟨h, h2, h9⟩) c
    · exact mex_X1_combine_1b l hlx b sl pv V P G hS n hn t ht h2 u c
  · exact mex_X1_combine_1a l hlx b sl pv V P G hS s hs h t u c

