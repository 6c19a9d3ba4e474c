set_option maxRecDepth 100000
set_option maxHeartbeats 1000000 in
theorem met_X1_partsOf {w : pb_W} (l : Launch) {H0 : Heap} (a : Nat) (P : Nat → Prop) (L : List Bnd) (hR : Rg w H0 P a L) (g : Nat → Nat) (hg : gok g) (hr : rs L (gc g)) : pb_M w l yX1_partsOf cX1_partsOf 2 (some (.object "PolygonBoard$PartScan")) 9 (3 + rpP 288 0) (10 + rpQ 288 0) [.ref (a)] H0 (pb_qr (fun c H1 => c = H0.size ∧ Pw w H1 H0.size c (scL paS L ([], fun _ => 0, 0) L.length) ∧ pb_F (fun q => q < H0.size) H0 H1)) := by
  refine pb_of (by decide +kernel) (Nat.le_of_ble_eq_true rfl) ?_
  intro p_ e_ s_ m_ ar_ bl_ me_ co_ ls C hh hG hl
  have hl : lv_has ls 2 [(0, .ref (a))] := hl
  have hzs := hG.1
  have hFF : pb_F (fun q => q < H0.size) H0 H0 := pb_F.rf
  refine pb_newE C in_X13 tyX13 tyX13_ok (ci := 8) rfl q1054 q1055 q85 (fs := [.int (iZ (0)), .null, .int (iZ (0))]) (by decide) (bc' := 3 + rpP 288 0 - 1) (bs' := 10 + rpQ 288 0 - 3) (by omega) (by omega) dX1_partsOf_0 fun a1_ H1_ ha_ hn_ hN1_ => ?_
  have hs1_ : H1_.size = H0.size + 1 := hn_.1
  have hG := hG.kept (hn_.f.mono (fun _ _ _ => trivial))
  have hFF := hFF.tr (hn_.f.mono (fun _ _ _ => trivial))
  obtain rfl : a1_ = H0.size := by omega
  skip
  have hN := hN1_
  refine pb_dup C dX1_partsOf_3 rfl ?_
  refine pb_go_v (bc' := 3 + rpP 288 0 - 1 - 1) (bs' := 10 + rpQ 288 0 - 3 - 3) (pb_runIN (rest := [.ref (H0.size)]) C hG (met_X13_init l H0.size H0.size (by omega) (Nat.le_refl _) hN) q1056 q1057 q85 q1058 rfl hdX13_init rfl hl.1 rfl (Nat.le_of_ble_eq_true rfl) ⟨(Nat.le_of_ble_eq_true rfl), (Nat.le_of_ble_eq_true rfl)⟩ dX1_partsOf_4) (by omega) (by omega) (fun H_ hp_ => ?_)
  obtain ⟨hPw, hF1⟩ := hp_
  have hG := hG.kept (hF1.mono (fun q _ (hq : q < w.2.2.2) => (⟨by omega, by omega⟩ : q < _ ∧ q ≠ _)))
  have hFF := hFF.tr (hF1.mono (fun q _ (hq : q < H0.size) => (⟨by omega, by omega⟩ : q < _ ∧ q ≠ _)))
  obtain ⟨fsw_, hPo⟩ := hPw.o
  refine pb_astore_n C dX1_partsOf_7 rfl hl (by decide) rfl fun ls hl => ?_
  have hl : lv_has ls 2 [(1, .ref (H0.size)), (0, .ref (a))] := hl
  refine pb_aload_n C dX1_partsOf_8 rfl (lv_at hl 0 rfl) ?_
  refine pb_aload_n C dX1_partsOf_9 rfl (lv_at hl 1 rfl) ?_
  refine pb_go_v (bc' := 3 + rpP 288 0 - 1 - 1 - (1 + rpP 288 0)) (bs' := 10 + rpQ 288 0 - 3 - 3 - (4 + rpQ 288 0)) (pb_runO (rest := []) C hG (met_X7_scan_X13_0 l H0.size H0.size a L (hR.below.kept hFF) (by omega) hPw (cntR_12 hg hr)) (x := ⟨"PolygonBoard$PartScan", "scan", "(LPolygonBoard$Region;)V"⟩) (owner := "PolygonBoard$Scan") hPo (ci := 8) rfl q1070 q1071 q517 q518 q1072 q517 q74 q518 (n := 1) ⟨by decide, by decide, by decide +kernel⟩ rfl hl.1 rfl (Nat.le_of_ble_eq_true rfl) ⟨(Nat.le_of_ble_eq_true rfl), (Nat.le_of_ble_eq_true rfl)⟩ dX1_partsOf_10) (by omega) (by omega) (fun H2 hp_ => ?_)
  obtain ⟨hPw, hF1⟩ := hp_
  refine pb_aload_n C dX1_partsOf_13 rfl (lv_at hl 0 rfl) ?_
  exact pb_aret C (Or.inl ⟨_, rfl⟩) dX1_partsOf_14 (Or.inr ⟨_, rfl⟩) (⟨_, rfl, rfl, hPw, hFF.tr hF1⟩)

set_option maxHeartbeats 1000000 in
theorem met_X1_partCount {w : pb_W} (l : Launch) {H0 : Heap} (b sl : Nat) (pv : Value) (V : List Nat) (P : Nat → Prop) (G : Nat → Nat → Nat) (hS0 : Sq w H0 P b sl pv V G) (s : Nat) (hs : s < 8) : pb_M w l yX1_partCount cX1_partCount 2 (some .int) 10 (3 + rpP 288 0) (10 + rpQ 288 0) [.ref (b), .int (iZ (((s : Nat) : Int)))] H0 (pb_qi (fun z H1 => z = ((ctP (G s) false 600 : Nat) : Int) ∧ pb_F (fun q => q < H0.size) H0 H1)) := by
  refine pb_of (by decide +kernel) (Nat.le_of_ble_eq_true rfl) ?_
  intro p_ e_ s_ m_ ar_ bl_ me_ co_ ls C hh hG hl
  have hl : lv_has ls 2 [(0, .ref (b)), (1, .int (iZ (((s : Nat) : Int))))] := hl
  have hzs := hG.1
  have hS := hS0.below
  have hFF : pb_F (fun q => q < H0.size) H0 H0 := pb_F.rf
  obtain ⟨hPb, hBo, hLr, hV8⟩ := id hS.1
  obtain ⟨hg, L, hR, hr⟩ := hS.2 s hs
  obtain ⟨fsr_, hRo⟩ := hR.o
  obtain ⟨hp1, hp2, hp3, hp4⟩ := rq_pre hg hr
  refine pb_aload_n C dX1_partCount_0 rfl (lv_at hl 0 rfl) ?_
  refine pb_iload_n C dX1_partCount_1 rfl (lv_at hl 1 rfl) ?_
  refine pb_go_x (bc' := 3 + rpP 288 0) (bs' := 10 + rpQ 288 0) (pb_runV (rest := []) C hG (met_X1_region l b sl pv V _ G hS s hs) hBo (ci := 0) rfl (lw_V q325 q327 qs4 q51 q328) ⟨rfl, hdX1_region⟩ rfl hl.1 rfl (Nat.le_of_ble_eq_true rfl) ⟨(Nat.le_of_ble_eq_true rfl), (Nat.le_of_ble_eq_true rfl)⟩ dX1_partCount_2) (by omega) (by omega) ?_
  refine pb_go_r (bc' := 3 + rpP 288 0 - (3 + rpP 288 0)) (bs' := 10 + rpQ 288 0 - (10 + rpQ 288 0)) (pb_runS (rest := []) C hG (met_X1_partsOf l (nV V s) _ L hR _ hg hr) (lw_S q1051 q1052 q51 q1053) hdX1_partsOf rfl hl.1 rfl (Nat.le_of_ble_eq_true rfl) ⟨(Nat.le_of_ble_eq_true rfl), (Nat.le_of_ble_eq_true rfl)⟩ dX1_partCount_5) (by omega) (by omega) (fun a_ H_ hp_ => ?_)
  obtain ⟨rfl, hPw, hF1⟩ := hp_
  obtain ⟨⟨RR, ro, p⟩, hsc⟩ : ∃ z, z = scL paS L ([], fun _ => 0, 0) L.length := ⟨_, rfl⟩
  rw [← hsc] at hPw
  obtain ⟨t9, e9, V9, P9, hzc, hO9, hrest⟩ := id hPw
  refine pb_getN C in_X13 hO9.r (ci := 8) rfl 2 (by decide) q1064 (fun _ h9 => h9) (v := .int (iZ (p))) rfl dX1_partCount_8 ?_
  exact pb_iret C dX1_partCount_11 (⟨_, rfl, pt_law hg hr hsc.symm (ct_NC hg), hF1⟩)

set_option maxHeartbeats 1000000 in
theorem met_X1_isSame {w : pb_W} (l : Launch) {H0 : Heap} (b sl : Nat) (pv : Value) (V : List Nat) (P : Nat → Prop) (G : Nat → Nat → Nat) (hS0 : Sq w H0 P b sl pv V G) (s : Nat) (hs : s < 8) (t : Nat) (ht : t < 8) : pb_M w l yX1_isSame cX1_isSame 4 (some .boolean) 9 (248) (3476) [.ref (b), .int (iZ (((s : Nat) : Int))), .int (iZ (((t : Nat) : Int)))] H0 (pb_qi (fun z H1 => z = bI (allB (fun y => decide (G s y = G t y)) 24) ∧ pb_F (fun q => q < H0.size) H0 H1)) := by
  refine pb_of (by decide +kernel) (Nat.le_of_ble_eq_true rfl) ?_
  intro p_ e_ s_ m_ ar_ bl_ me_ co_ ls C hh hG hl
  have hl : lv_has ls 4 [(0, .ref (b)), (1, .int (iZ (((s : Nat) : Int)))), (2, .int (iZ (((t : Nat) : Int))))] := hl
  have hzs := hG.1
  have hS := hS0.below
  have hFF : pb_F (fun q => q < H0.size) H0 H0 := pb_F.rf
  obtain ⟨hPb, hBo, hLr, hV8⟩ := id hS.1
  obtain ⟨hg, L, hR, hr⟩ := hS.2 s hs
  obtain ⟨fsr_, hRo⟩ := hR.o
  obtain ⟨hp1, hp2, hp3, hp4⟩ := rq_pre hg hr
  obtain ⟨hg2, L2, hR2, hr2⟩ := hS.2 t ht
  obtain ⟨fsr2_, hRo2⟩ := hR2.o
  refine pb_aload_n C dX1_isSame_0 rfl (lv_at hl 0 rfl) ?_
  refine pb_iload_n C dX1_isSame_1 rfl (lv_at hl 1 rfl) ?_
  refine pb_iload_n C dX1_isSame_2 rfl (lv_at hl 2 rfl) ?_
  refine pb_go_x (bc' := 248) (bs' := 3476) (pb_runV (rest := []) C hG (met_X1_regionFor l b sl pv V _ G hS s hs t ht) hBo (ci := 0) rfl (lw_V q865 q867 qs12 q51 q868) ⟨rfl, hdX1_regionFor⟩ rfl hl.1 rfl (Nat.le_of_ble_eq_true rfl) ⟨(Nat.le_of_ble_eq_true rfl), (Nat.le_of_ble_eq_true rfl)⟩ dX1_isSame_3) (by omega) (by omega) ?_
  refine pb_astore_n C dX1_isSame_6 rfl hl (by decide) rfl fun ls hl => ?_
  have hl : lv_has ls 4 [(3, .ref ((nV V s))), (0, .ref (b)), (1, .int (iZ (((s : Nat) : Int)))), (2, .int (iZ (((t : Nat) : Int))))] := hl
  refine pb_aload_n C dX1_isSame_7 rfl (lv_at hl 0 rfl) ?_
  refine pb_aload_n C dX1_isSame_8 rfl (lv_at hl 1 rfl) ?_
  refine pb_iload_n C dX1_isSame_9 rfl (lv_at hl 3 rfl) ?_
  refine pb_go_x (bc' := 248) (bs' := 3476) (pb_runV (rest := [.ref ((nV V s))]) C hG (met_X1_region l b sl pv V _ G hS t ht) hBo (ci := 0) rfl (lw_V q325 q327 qs4 q51 q328) ⟨rfl, hdX1_region⟩ rfl hl.1 rfl (Nat.le_of_ble_eq_true rfl) ⟨(Nat.le_of_ble_eq_true rfl), (Nat.le_of_ble_eq_true rfl)⟩ dX1_isSame_10) (by omega) (by omega) ?_
  refine pb_gets C (n := "EXCLUSIVE") (v := .ref (w.2.2.1 6)) hG.2.2.2.2.2.2.2.2.2.2.2.2.1.1 q1337 (fun _ h9 => h9) dX1_isSame_13 ?_
  refine pb_go_r (bc' := 0) (bs' := 0) (pb_runV (rest := []) C hG (met_X2_combine_g l (nV V s) (nV V t) 3 (by decide) _ _ (G s) (G t) (hS.2 s hs) (hS.2 t ht)) hRo (ci := 1) rfl (lw_V q664 q665 q666 q55 q667) ⟨rfl, hdX2_combine⟩ rfl hl.1 rfl (Nat.le_of_ble_eq_true rfl) ⟨(Nat.le_of_ble_eq_true rfl), (Nat.le_of_ble_eq_true rfl)⟩ dX1_isSame_16) (by omega) (by omega) (fun r9 H_ hp_ => ?_)
  obtain ⟨L9, hR9, hr9, hF1⟩ := hp_
  obtain ⟨fs9_, hRo9⟩ := hR9.o
  have hG := hG.kept (hF1.mono (fun q _ (hq : q < w.2.2.2) => show q < _ from by omega))
  refine pb_go_x (bc' := 0) (bs' := 0) (pb_runV (rest := []) C hG (met_X2_isEmpty l r9 _ L9 hR9) hRo9 (ci := 1) rfl (lw_V q1338 q884 q885 q55 q886) ⟨rfl, hdX2_isEmpty⟩ rfl hl.1 rfl (Nat.le_of_ble_eq_true rfl) ⟨(Nat.le_of_ble_eq_true rfl), (Nat.le_of_ble_eq_true rfl)⟩ dX1_isSame_19) (by omega) (by omega) ?_
  exact pb_zret C dX1_isSame_22 (pb_nar (decide (L9.length = 0))) (⟨_, rfl, congrArg bI (same_law hg hg2 hr9), hF1⟩)

set_option maxHeartbeats 1000000 in
theorem met_X1_covers {w : pb_W} (l : Launch) {H0 : Heap} (b sl : Nat) (pv : Value) (V : List Nat) (P : Nat → Prop) (G : Nat → Nat → Nat) (hS0 : Sq w H0 P b sl pv V G) (s : Nat) (hs : s < 8) (t : Nat) (ht : t < 8) : pb_M w l yX1_covers cX1_covers 4 (some .boolean) 9 (248) (3476) [.ref (b), .int (iZ (((s : Nat) : Int))), .int (iZ (((t : Nat) : Int)))] H0 (pb_qi (fun z H1 => z = bI (allB (fun y => decide (pb_dif (G t y) (G s y) = 0)) 24) ∧ pb_F (fun q => q < H0.size) H0 H1)) := by
  refine pb_of (by decide +kernel) (Nat.le_of_ble_eq_true rfl) ?_
  intro p_ e_ s_ m_ ar_ bl_ me_ co_ ls C hh hG hl
  have hl : lv_has ls 4 [(0, .ref (b)), (1, .int (iZ (((s : Nat) : Int)))), (2, .int (iZ (((t : Nat) : Int))))] := hl
  have hzs := hG.1
  have hS := hS0.below
  have hFF : pb_F (fun q => q < H0.size) H0 H0 := pb_F.rf
  obtain ⟨hPb, hBo, hLr, hV8⟩ := id hS.1
  obtain ⟨hg, L, hR, hr⟩ := hS.2 s hs
  obtain ⟨fsr_, hRo⟩ := hR.o
  obtain ⟨hp1, hp2, hp3, hp4⟩ := rq_pre hg hr
  obtain ⟨hg2, L2, hR2, hr2⟩ := hS.2 t ht
  obtain ⟨fsr2_, hRo2⟩ := hR2.o
  refine pb_aload_n C dX1_covers_0 rfl (lv_at hl 0 rfl) ?_
  refine pb_iload_n C dX1_covers_1 rfl (lv_at hl 1 rfl) ?_
  refine pb_iload_n C dX1_covers_2 rfl (lv_at hl 2 rfl) ?_
  refine pb_go_x (bc' := 248) (bs' := 3476) (pb_runV (rest := []) C hG (met_X1_regionFor l b sl pv V _ G hS s hs t ht) hBo (ci := 0) rfl (lw_V q865 q867 qs12 q51 q868) ⟨rfl, hdX1_regionFor⟩ rfl hl.1 rfl (Nat.le_of_ble_eq_true rfl) ⟨(Nat.le_of_ble_eq_true rfl), (Nat.le_of_ble_eq_true rfl)⟩ dX1_covers_3) (by omega) (by omega) ?_
  refine pb_astore_n C dX1_covers_6 rfl hl (by decide) rfl fun ls hl => ?_
  have hl : lv_has ls 4 [(3, .ref ((nV V s))), (0, .ref (b)), (1, .int (iZ (((s : Nat) : Int)))), (2, .int (iZ (((t : Nat) : Int))))] := hl
  refine pb_aload_n C dX1_covers_7 rfl (lv_at hl 1 rfl) ?_
  refine pb_iload_n C dX1_covers_8 rfl (lv_at hl 3 rfl) ?_
  refine pb_go_x (bc' := 248) (bs' := 3476) (pb_runV (rest := []) C hG (met_X1_region l b sl pv V _ G hS t ht) hBo (ci := 0) rfl (lw_V q325 q327 qs4 q51 q328) ⟨rfl, hdX1_region⟩ rfl hl.1 rfl (Nat.le_of_ble_eq_true rfl) ⟨(Nat.le_of_ble_eq_true rfl), (Nat.le_of_ble_eq_true rfl)⟩ dX1_covers_9) (by omega) (by omega) ?_
  refine pb_aload_n C dX1_covers_12 rfl (lv_at hl 0 rfl) ?_
  refine pb_gets C (n := "DIFFERENCE") (v := .ref (w.2.2.1 5)) hG.2.2.2.2.2.2.2.2.2.2.2.1.1 q736 (fun _ h9 => h9) dX1_covers_13 ?_
  refine pb_go_r (bc' := 0) (bs' := 0) (pb_runV (rest := []) C hG (met_X2_combine_g l (nV V t) (nV V s) 2 (by decide) _ _ (G t) (G s) (hS.2 t ht) (hS.2 s hs)) hRo2 (ci := 1) rfl (lw_V q664 q665 q666 q55 q667) ⟨rfl, hdX2_combine⟩ rfl hl.1 rfl (Nat.le_of_ble_eq_true rfl) ⟨(Nat.le_of_ble_eq_true rfl), (Nat.le_of_ble_eq_true rfl)⟩ dX1_covers_16) (by omega) (by omega) (fun r9 H_ hp_ => ?_)
  obtain ⟨L9, hR9, hr9, hF1⟩ := hp_
  obtain ⟨fs9_, hRo9⟩ := hR9.o
  have hG := hG.kept (hF1.mono (fun q _ (hq : q < w.2.2.2) => show q < _ from by omega))
  refine pb_go_x (bc' := 0) (bs' := 0) (pb_runV (rest := []) C hG (met_X2_isEmpty l r9 _ L9 hR9) hRo9 (ci := 1) rfl (lw_V q1338 q884 q885 q55 q886) ⟨rfl, hdX2_isEmpty⟩ rfl hl.1 rfl (Nat.le_of_ble_eq_true rfl) ⟨(Nat.le_of_ble_eq_true rfl), (Nat.le_of_ble_eq_true rfl)⟩ dX1_covers_19) (by omega) (by omega) ?_
  exact pb_zret C dX1_covers_22 (pb_nar (decide (L9.length = 0))) (⟨_, rfl, congrArg bI (covers_law hg2 hr9), hF1⟩)

