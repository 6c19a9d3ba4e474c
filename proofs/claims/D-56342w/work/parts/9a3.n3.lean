set_option maxRecDepth 100000
set_option maxHeartbeats 1000000 in
theorem met_X1_rectangleCount {w : pb_W} (l : Launch) {H0 : Heap} (b sl : Nat) (pv : Value) (V : List Nat) (P : Nat → Prop) (G : Nat → Nat → Nat) (hS0 : Sq w H0 P b sl pv V G) (s : Nat) (hs : s < 8) : pb_M w l yX1_rectangleCount cX1_rectangleCount 3 (some .int) 4 (2) (6) [.ref (b), .int (iZ (((s : Nat) : Int)))] H0 (pb_qi (fun z H1 => z = ((rectV (G s) : Nat) : Int) ∧ pb_F (fun q => q < H0.size) H0 H1)) := by
  refine pb_of (by decide +kernel) (Nat.le_of_ble_eq_true rfl) ?_
  intro p_ e_ s_ m_ ar_ bl_ me_ co_ ls C hh hG hl
  have hl : lv_has ls 3 [(0, .ref (b)), (1, .int (iZ (((s : Nat) : Int))))] := hl
  have hzs := hG.1
  have hS := hS0.below
  have hFF : pb_F (fun q => q < H0.size) H0 H0 := pb_F.rf
  obtain ⟨hPb, hBo, hLr, hV8⟩ := id hS.1
  obtain ⟨hg, L, hR, hr⟩ := hS.2 s hs
  obtain ⟨fsr_, hRo⟩ := hR.o
  obtain ⟨hp1, hp2, hp3, hp4⟩ := rq_pre hg hr
  refine pb_newE C in_X8 tyX8 tyX8_ok (ci := 5) rfl q1196 q492 q75 (fs := [.int (iZ (0)), .int (iZ (0))]) (by decide) (bc' := 1) (bs' := 4) (by omega) (by omega) dX1_rectangleCount_0 fun a1_ H1_ ha_ hn_ hN1_ => ?_
  have hs1_ : H1_.size = H0.size + 1 := hn_.1
  have hG := hG.kept (hn_.f.mono (fun _ _ _ => trivial))
  have hBo := hBo.kept (hn_.2 _ hBo.lt)
  have hS := hS.kept (hn_.f.mono (fun _ _ _ => trivial))
  have hR := hR.kept (hn_.f.mono (fun _ _ _ => trivial))
  obtain ⟨fsr_, hRo⟩ := hR.o
  have hFF := hFF.tr (hn_.f.mono (fun _ _ _ => trivial))
  obtain rfl : a1_ = H0.size := by omega
  skip
  have hN := hN1_
  refine pb_dup C dX1_rectangleCount_3 rfl ?_
  refine pb_go_v (bc' := 1) (bs' := 4) (pb_runIN (rest := [.ref (H0.size)]) C hG (met_X8_init l H0.size) q1197 q494 q75 q495 rfl hdX8_init rfl hl.1 rfl (Nat.le_of_ble_eq_true rfl) ⟨(Nat.le_of_ble_eq_true rfl), (Nat.le_of_ble_eq_true rfl)⟩ dX1_rectangleCount_4) (by omega) (by omega) (fun H_ hp_ => ?_)
  have hp8 := hp_.symm
  subst hp8
  refine pb_astore_n C dX1_rectangleCount_7 rfl hl (by decide) rfl fun ls hl => ?_
  have hl : lv_has ls 3 [(2, .ref (H0.size)), (0, .ref (b)), (1, .int (iZ (((s : Nat) : Int))))] := hl
  refine pb_aload_n C dX1_rectangleCount_8 rfl (lv_at hl 0 rfl) ?_
  refine pb_aload_n C dX1_rectangleCount_9 rfl (lv_at hl 1 rfl) ?_
  refine pb_iload_n C dX1_rectangleCount_10 rfl (lv_at hl 2 rfl) ?_
  refine pb_go_x (bc' := 1) (bs' := 4) (pb_runV (rest := [.ref (H0.size)]) C hG (met_X1_region l b sl pv V _ G hS s hs) hBo (ci := 0) rfl (lw_V q325 q327 qs4 q51 q328) ⟨rfl, hdX1_region⟩ rfl hl.1 rfl (Nat.le_of_ble_eq_true rfl) ⟨(Nat.le_of_ble_eq_true rfl), (Nat.le_of_ble_eq_true rfl)⟩ dX1_rectangleCount_11) (by omega) (by omega) ?_
  refine pb_go_v (bc' := 0) (bs' := 0) (pb_runO (rest := []) C hG (met_X7_scan_X8 l H0.size (nV V s) (fun q => q < H0.size) L hR (fun h9 => absurd (show H0.size < H0.size from h9) (Nat.lt_irrefl _)) hp1 hp2 (0, 0) (by omega) hN) (x := ⟨"PolygonBoard$Scan", "scan", "(LPolygonBoard$Region;)V"⟩) (owner := "PolygonBoard$Scan") hN.r (ci := 5) rfl q1198 q2120 q517 q518 q2121 q517 q74 q518 (n := 1) ⟨by decide, by decide, by decide +kernel⟩ rfl hl.1 rfl (Nat.le_of_ble_eq_true rfl) ⟨(Nat.le_of_ble_eq_true rfl), (Nat.le_of_ble_eq_true rfl)⟩ dX1_rectangleCount_14) (by omega) (by omega) (fun H_ hp_ => ?_)
  obtain ⟨hO9, hF9⟩ := hp_
  have hG := hG.kept (hF9.mono (fun q _ (hq : q < w.2.2.2) => (⟨by omega, by omega⟩ : q < _ ∧ q ≠ _)))
  have hFF := hFF.tr (hF9.mono (fun q _ (hq : q < H0.size) => (⟨by omega, by omega⟩ : q < _ ∧ q ≠ _)))
  have hS := hS0.below.kept hFF
  obtain ⟨-, hBo, -, -⟩ := id hS.1
  refine pb_aload_n C dX1_rectangleCount_17 rfl (lv_at hl 0 rfl) ?_
  refine pb_getN C in_X8 hO9.r (ci := 5) rfl 0 (by decide) q503 (fun _ h9 => h9) (v := .int (iZ ((scL arS L (0, 0) L.length).1))) rfl dX1_rectangleCount_18 ?_
  exact pb_iret C dX1_rectangleCount_21 (⟨_, rfl, rect_law hg hr, hFF⟩)

set_option maxHeartbeats 1000000 in
theorem met_X1_moment {w : pb_W} (l : Launch) {H0 : Heap} (b sl : Nat) (pv : Value) (V : List Nat) (P : Nat → Prop) (G : Nat → Nat → Nat) (hS0 : Sq w H0 P b sl pv V G) (s : Nat) (hs : s < 8) : pb_M w l yX1_moment cX1_moment 3 (some .long) 4 (2) (6) [.ref (b), .int (iZ (((s : Nat) : Int)))] H0 (pb_ql (fun z H1 => z = ((momV (G s) : Nat) : Int) ∧ pb_F (fun q => q < H0.size) H0 H1)) := by
  refine pb_of (by decide +kernel) (Nat.le_of_ble_eq_true rfl) ?_
  intro p_ e_ s_ m_ ar_ bl_ me_ co_ ls C hh hG hl
  have hl : lv_has ls 3 [(0, .ref (b)), (1, .int (iZ (((s : Nat) : Int))))] := hl
  have hzs := hG.1
  have hS := hS0.below
  have hFF : pb_F (fun q => q < H0.size) H0 H0 := pb_F.rf
  obtain ⟨hPb, hBo, hLr, hV8⟩ := id hS.1
  obtain ⟨hg, L, hR, hr⟩ := hS.2 s hs
  obtain ⟨fsr_, hRo⟩ := hR.o
  obtain ⟨hp1, hp2, hp3, hp4⟩ := rq_pre hg hr
  refine pb_newE C in_X9 tyX9 tyX9_ok (ci := 6) rfl q1635 q1636 q78 (fs := [.int (iZ (0)), .long (lZ (0))]) (by decide) (bc' := 1) (bs' := 4) (by omega) (by omega) dX1_moment_0 fun a1_ H1_ ha_ hn_ hN1_ => ?_
  have hs1_ : H1_.size = H0.size + 1 := hn_.1
  have hG := hG.kept (hn_.f.mono (fun _ _ _ => trivial))
  have hBo := hBo.kept (hn_.2 _ hBo.lt)
  have hS := hS.kept (hn_.f.mono (fun _ _ _ => trivial))
  have hR := hR.kept (hn_.f.mono (fun _ _ _ => trivial))
  obtain ⟨fsr_, hRo⟩ := hR.o
  have hFF := hFF.tr (hn_.f.mono (fun _ _ _ => trivial))
  obtain rfl : a1_ = H0.size := by omega
  skip
  have hN := hN1_
  refine pb_dup C dX1_moment_3 rfl ?_
  refine pb_go_v (bc' := 1) (bs' := 4) (pb_runIN (rest := [.ref (H0.size)]) C hG (met_X9_init l H0.size) q1637 q1638 q78 q1639 rfl hdX9_init rfl hl.1 rfl (Nat.le_of_ble_eq_true rfl) ⟨(Nat.le_of_ble_eq_true rfl), (Nat.le_of_ble_eq_true rfl)⟩ dX1_moment_4) (by omega) (by omega) (fun H_ hp_ => ?_)
  have hp8 := hp_.symm
  subst hp8
  refine pb_astore_n C dX1_moment_7 rfl hl (by decide) rfl fun ls hl => ?_
  have hl : lv_has ls 3 [(2, .ref (H0.size)), (0, .ref (b)), (1, .int (iZ (((s : Nat) : Int))))] := hl
  refine pb_aload_n C dX1_moment_8 rfl (lv_at hl 0 rfl) ?_
  refine pb_aload_n C dX1_moment_9 rfl (lv_at hl 1 rfl) ?_
  refine pb_iload_n C dX1_moment_10 rfl (lv_at hl 2 rfl) ?_
  refine pb_go_x (bc' := 1) (bs' := 4) (pb_runV (rest := [.ref (H0.size)]) C hG (met_X1_region l b sl pv V _ G hS s hs) hBo (ci := 0) rfl (lw_V q325 q327 qs4 q51 q328) ⟨rfl, hdX1_region⟩ rfl hl.1 rfl (Nat.le_of_ble_eq_true rfl) ⟨(Nat.le_of_ble_eq_true rfl), (Nat.le_of_ble_eq_true rfl)⟩ dX1_moment_11) (by omega) (by omega) ?_
  refine pb_go_v (bc' := 0) (bs' := 0) (pb_runO (rest := []) C hG (met_X7_scan_X9 l H0.size (nV V s) (fun q => q < H0.size) L hR (fun h9 => absurd (show H0.size < H0.size from h9) (Nat.lt_irrefl _)) hp1 hp2 (0, 0) (by omega) hN) (x := ⟨"PolygonBoard$MomentScan", "scan", "(LPolygonBoard$Region;)V"⟩) (owner := "PolygonBoard$Scan") hN.r (ci := 6) rfl q1646 q1647 q517 q518 q1648 q517 q74 q518 (n := 1) ⟨by decide, by decide, by decide +kernel⟩ rfl hl.1 rfl (Nat.le_of_ble_eq_true rfl) ⟨(Nat.le_of_ble_eq_true rfl), (Nat.le_of_ble_eq_true rfl)⟩ dX1_moment_14) (by omega) (by omega) (fun H_ hp_ => ?_)
  obtain ⟨hO9, hF9⟩ := hp_
  have hG := hG.kept (hF9.mono (fun q _ (hq : q < w.2.2.2) => (⟨by omega, by omega⟩ : q < _ ∧ q ≠ _)))
  have hFF := hFF.tr (hF9.mono (fun q _ (hq : q < H0.size) => (⟨by omega, by omega⟩ : q < _ ∧ q ≠ _)))
  have hS := hS0.below.kept hFF
  obtain ⟨-, hBo, -, -⟩ := id hS.1
  refine pb_aload_n C dX1_moment_17 rfl (lv_at hl 0 rfl) ?_
  refine pb_getN C in_X9 hO9.r (ci := 6) rfl 1 (by decide) q1642 (fun _ h9 => h9) (v := .long (lZ ((scL moS L (0, 0) L.length).2))) rfl dX1_moment_18 ?_
  exact pb_lret C dX1_moment_21 (⟨_, rfl, mom_law hg hr, hFF⟩)

set_option maxHeartbeats 1000000 in
theorem met_X1_middleOf {w : pb_W} (l : Launch) {H0 : Heap} (b sl : Nat) (pv : Value) (V : List Nat) (P : Nat → Prop) (G : Nat → Nat → Nat) (hS0 : Sq w H0 P b sl pv V G) (s : Nat) (hs : s < 8) (h0 : cnt (G s) ≠ 0) : pb_M w l yX1_middleOf cX1_middleOf 3 (some (.object "PolygonBoard$MiddleScan")) 4 (2) (8) [.ref (b), .int (iZ (((s : Nat) : Int)))] H0 (pb_qr (fun r H1 => r = H0.size ∧ ∃ v0, pb_O w H1 r 7 [v0, .int (iZ ((midX (G s) : Nat) : Int)), .int (iZ ((midY (G s) : Nat) : Int)), .int (iZ ((cnt (G s) : Nat) : Int))] ∧ pb_F (fun q => q < H0.size) H0 H1)) := by
  refine pb_of (by decide +kernel) (Nat.le_of_ble_eq_true rfl) ?_
  intro p_ e_ s_ m_ ar_ bl_ me_ co_ ls C hh hG hl
  have hl : lv_has ls 3 [(0, .ref (b)), (1, .int (iZ (((s : Nat) : Int))))] := hl
  have hzs := hG.1
  have hS := hS0.below
  have hFF : pb_F (fun q => q < H0.size) H0 H0 := pb_F.rf
  obtain ⟨hPb, hBo, hLr, hV8⟩ := id hS.1
  obtain ⟨hg, L, hR, hr⟩ := hS.2 s hs
  obtain ⟨fsr_, hRo⟩ := hR.o
  obtain ⟨hp1, hp2, hp3, hp4⟩ := rq_pre hg hr
  refine pb_newE C in_X17 tyX17 tyX17_ok (ci := 7) rfl q1685 q1686 q92 (fs := [.int (iZ (0)), .int (iZ (0)), .int (iZ (0)), .int (iZ (0))]) (by decide) (bc' := 1) (bs' := 4) (by omega) (by omega) dX1_middleOf_0 fun a1_ H1_ ha_ hn_ hN1_ => ?_
  have hs1_ : H1_.size = H0.size + 1 := hn_.1
  have hG := hG.kept (hn_.f.mono (fun _ _ _ => trivial))
  have hBo := hBo.kept (hn_.2 _ hBo.lt)
  have hS := hS.kept (hn_.f.mono (fun _ _ _ => trivial))
  have hR := hR.kept (hn_.f.mono (fun _ _ _ => trivial))
  obtain ⟨fsr_, hRo⟩ := hR.o
  have hFF := hFF.tr (hn_.f.mono (fun _ _ _ => trivial))
  obtain rfl : a1_ = H0.size := by omega
  skip
  have hN := hN1_
  refine pb_dup C dX1_middleOf_3 rfl ?_
  refine pb_go_v (bc' := 1) (bs' := 4) (pb_runIN (rest := [.ref (H0.size)]) C hG (met_X17_init l H0.size) q1687 q1688 q92 q1689 rfl hdX17_init rfl hl.1 rfl (Nat.le_of_ble_eq_true rfl) ⟨(Nat.le_of_ble_eq_true rfl), (Nat.le_of_ble_eq_true rfl)⟩ dX1_middleOf_4) (by omega) (by omega) (fun H_ hp_ => ?_)
  have hp8 := hp_.symm
  subst hp8
  refine pb_astore_n C dX1_middleOf_7 rfl hl (by decide) rfl fun ls hl => ?_
  have hl : lv_has ls 3 [(2, .ref (H0.size)), (0, .ref (b)), (1, .int (iZ (((s : Nat) : Int))))] := hl
  refine pb_aload_n C dX1_middleOf_8 rfl (lv_at hl 0 rfl) ?_
  refine pb_aload_n C dX1_middleOf_9 rfl (lv_at hl 1 rfl) ?_
  refine pb_iload_n C dX1_middleOf_10 rfl (lv_at hl 2 rfl) ?_
  refine pb_go_x (bc' := 1) (bs' := 4) (pb_runV (rest := [.ref (H0.size)]) C hG (met_X1_region l b sl pv V _ G hS s hs) hBo (ci := 0) rfl (lw_V q325 q327 qs4 q51 q328) ⟨rfl, hdX1_region⟩ rfl hl.1 rfl (Nat.le_of_ble_eq_true rfl) ⟨(Nat.le_of_ble_eq_true rfl), (Nat.le_of_ble_eq_true rfl)⟩ dX1_middleOf_11) (by omega) (by omega) ?_
  refine pb_go_v (bc' := 0) (bs' := 0) (pb_runO (rest := []) C hG (met_X7_scan_X17 l H0.size (nV V s) (fun q => q < H0.size) L hR (fun h9 => absurd (show H0.size < H0.size from h9) (Nat.lt_irrefl _)) hp1 hp2 (0, 0, 0, 0) (by omega) hN) (x := ⟨"PolygonBoard$MiddleScan", "scan", "(LPolygonBoard$Region;)V"⟩) (owner := "PolygonBoard$Scan") hN.r (ci := 7) rfl q1704 q1705 q517 q518 q1706 q517 q74 q518 (n := 1) ⟨by decide, by decide, by decide +kernel⟩ rfl hl.1 rfl (Nat.le_of_ble_eq_true rfl) ⟨(Nat.le_of_ble_eq_true rfl), (Nat.le_of_ble_eq_true rfl)⟩ dX1_middleOf_14) (by omega) (by omega) (fun H_ hp_ => ?_)
  obtain ⟨hO9, hF9⟩ := hp_
  have hG := hG.kept (hF9.mono (fun q _ (hq : q < w.2.2.2) => (⟨by omega, by omega⟩ : q < _ ∧ q ≠ _)))
  have hFF := hFF.tr (hF9.mono (fun q _ (hq : q < H0.size) => (⟨by omega, by omega⟩ : q < _ ∧ q ≠ _)))
  have hS := hS0.below.kept hFF
  obtain ⟨-, hBo, -, -⟩ := id hS.1
  refine pb_aload_n C dX1_middleOf_17 rfl (lv_at hl 0 rfl) ?_
  refine pb_getN C in_X17 hO9.r (ci := 7) rfl 3 (by decide) q1696 (fun _ h9 => h9) (v := .int (iZ ((scL miS L (0, 0, 0, 0) L.length).2.2.2))) rfl dX1_middleOf_18 ?_
  have hmid := mid_law hg hr
  have hm1 : (scL miS L (0, 0, 0, 0) L.length).2.1 = ((midX (G s) : Nat) : Int) := congrArg Prod.fst hmid
  have hm2 : (scL miS L (0, 0, 0, 0) L.length).2.2.1 = ((midY (G s) : Nat) : Int) := congrArg (fun z => z.2.1) hmid
  have hm3 : (scL miS L (0, 0, 0, 0) L.length).2.2.2 = ((cnt (G s) : Nat) : Int) := congrArg (fun z => z.2.2) hmid
  have hcl := cnt_le (G s)
  refine pb_if_ne C dX1_middleOf_21 (x := (scL miS L (0, 0, 0, 0) L.length).2.2.2) (tgt := 32) (by decide) (by omega) (fun c21_ => ?_) (fun c21_ => ?_)
  · refine pb_aload_n C dX1_middleOf_32 rfl (lv_at hl 0 rfl) ?_
    exact pb_aret C (Or.inl ⟨_, rfl⟩) dX1_middleOf_33 (Or.inr ⟨_, rfl⟩) (⟨_, rfl, rfl, _, by rw [← hm1, ← hm2, ← hm3]; exact hO9, hFF⟩)
  · exact absurd c21_ (by rw [hm3]; omega)

set_option maxHeartbeats 1000000 in
theorem met_X1_middleX {w : pb_W} (l : Launch) {H0 : Heap} (b sl : Nat) (pv : Value) (V : List Nat) (P : Nat → Prop) (G : Nat → Nat → Nat) (hS0 : Sq w H0 P b sl pv V G) (s : Nat) (hs : s < 8) (h0 : cnt (G s) ≠ 0) : pb_M w l yX1_middleX cX1_middleX 3 (some .double) 5 (2) (8) [.ref (b), .int (iZ (((s : Nat) : Int)))] H0 (pb_qq (fun z H1 => z = .double (midV (midX (G s)) (cnt (G s))) ∧ pb_F (fun q => q < H0.size) H0 H1)) := by
  refine pb_of (by decide +kernel) (Nat.le_of_ble_eq_true rfl) ?_
  intro p_ e_ s_ m_ ar_ bl_ me_ co_ ls C hh hG hl
  have hl : lv_has ls 3 [(0, .ref (b)), (1, .int (iZ (((s : Nat) : Int))))] := hl
  have hzs := hG.1
  have hS := hS0.below
  have hFF : pb_F (fun q => q < H0.size) H0 H0 := pb_F.rf
  obtain ⟨hPb, hBo, hLr, hV8⟩ := id hS.1
  obtain ⟨hg, L, hR, hr⟩ := hS.2 s hs
  obtain ⟨fsr_, hRo⟩ := hR.o
  obtain ⟨hp1, hp2, hp3, hp4⟩ := rq_pre hg hr
  refine pb_aload_n C dX1_middleX_0 rfl (lv_at hl 0 rfl) ?_
  refine pb_iload_n C dX1_middleX_1 rfl (lv_at hl 1 rfl) ?_
  refine pb_go_r (bc' := 0) (bs' := 0) (pb_runV (rest := []) C hG (met_X1_middleOf l b sl pv V _ G hS s hs h0) hBo (ci := 0) rfl (lw_V q1681 q1683 qs26 q51 q1684) ⟨rfl, hdX1_middleOf⟩ rfl hl.1 rfl (Nat.le_of_ble_eq_true rfl) ⟨(Nat.le_of_ble_eq_true rfl), (Nat.le_of_ble_eq_true rfl)⟩ dX1_middleX_2) (by omega) (by omega) (fun a_ H_ hp_ => ?_)
  obtain ⟨rfl, v0, hO9, hF1⟩ := hp_
  have hG := hG.kept (hF1.mono (fun q _ (hq : q < w.2.2.2) => show q < _ from by omega))
  have hS := hS.kept hF1
  have hR := hR.kept hF1
  obtain ⟨fsr_, hRo⟩ := hR.o
  have hBo := hBo.kept (hF1.2 _ hBo.lt hBo.lt)
  refine pb_astore_n C dX1_middleX_5 rfl hl (by decide) rfl fun ls hl => ?_
  have hl : lv_has ls 3 [(2, .ref (H0.size)), (0, .ref (b)), (1, .int (iZ (((s : Nat) : Int))))] := hl
  refine pb_aload_n C dX1_middleX_6 rfl (lv_at hl 0 rfl) ?_
  refine pb_aload_n C dX1_middleX_7 rfl (lv_at hl 0 rfl) ?_
  refine pb_getN C in_X17 hO9.r (ci := 7) rfl 1 (by decide) q1692 (fun _ h9 => h9) (v := .int (iZ ((((midX (G s)) : Nat) : Int)))) rfl dX1_middleX_8 ?_
  refine pb_go_x (bc' := 0) (bs' := 0) (pb_runV (rest := []) C hG (met_X17_middle l H0.size (cnt (G s)) _ _ _ hO9.r (Nat.pos_of_ne_zero h0) (by have := cnt_le (G s); omega) ((midX (G s) : Nat) : Int)) hO9.r (ci := 7) rfl (lw_V q1712 q1713 q1714 q92 q1715) ⟨rfl, hdX17_middle⟩ rfl hl.1 rfl (Nat.le_of_ble_eq_true rfl) ⟨(Nat.le_of_ble_eq_true rfl), (Nat.le_of_ble_eq_true rfl)⟩ dX1_middleX_11) (by omega) (by omega) ?_
  exact pb_dret C dX1_middleX_14 (⟨_, rfl, rfl, hF1⟩)

set_option maxHeartbeats 1000000 in
theorem met_X1_middleY {w : pb_W} (l : Launch) {H0 : Heap} (b sl : Nat) (pv : Value) (V : List Nat) (P : Nat → Prop) (G : Nat → Nat → Nat) (hS0 : Sq w H0 P b sl pv V G) (s : Nat) (hs : s < 8) (h0 : cnt (G s) ≠ 0) : pb_M w l yX1_middleY cX1_middleY 3 (some .double) 5 (2) (8) [.ref (b), .int (iZ (((s : Nat) : Int)))] H0 (pb_qq (fun z H1 => z = .double (midV (midY (G s)) (cnt (G s))) ∧ pb_F (fun q => q < H0.size) H0 H1)) := by
  refine pb_of (by decide +kernel) (Nat.le_of_ble_eq_true rfl) ?_
  intro p_ e_ s_ m_ ar_ bl_ me_ co_ ls C hh hG hl
  have hl : lv_has ls 3 [(0, .ref (b)), (1, .int (iZ (((s : Nat) : Int))))] := hl
  have hzs := hG.1
  have hS := hS0.below
  have hFF : pb_F (fun q => q < H0.size) H0 H0 := pb_F.rf
  obtain ⟨hPb, hBo, hLr, hV8⟩ := id hS.1
  obtain ⟨hg, L, hR, hr⟩ := hS.2 s hs
  obtain ⟨fsr_, hRo⟩ := hR.o
  obtain ⟨hp1, hp2, hp3, hp4⟩ := rq_pre hg hr
  refine pb_aload_n C dX1_middleY_0 rfl (lv_at hl 0 rfl) ?_
  refine pb_iload_n C dX1_middleY_1 rfl (lv_at hl 1 rfl) ?_
  refine pb_go_r (bc' := 0) (bs' := 0) (pb_runV (rest := []) C hG (met_X1_middleOf l b sl pv V _ G hS s hs h0) hBo (ci := 0) rfl (lw_V q1681 q1683 qs26 q51 q1684) ⟨rfl, hdX1_middleOf⟩ rfl hl.1 rfl (Nat.le_of_ble_eq_true rfl) ⟨(Nat.le_of_ble_eq_true rfl), (Nat.le_of_ble_eq_true rfl)⟩ dX1_middleY_2) (by omega) (by omega) (fun a_ H_ hp_ => ?_)
  obtain ⟨rfl, v0, hO9, hF1⟩ := hp_
  have hG := hG.kept (hF1.mono (fun q _ (hq : q < w.2.2.2) => show q < _ from by omega))
  have hS := hS.kept hF1
  have hR := hR.kept hF1
  obtain ⟨fsr_, hRo⟩ := hR.o
  have hBo := hBo.kept (hF1.2 _ hBo.lt hBo.lt)
  refine pb_astore_n C dX1_middleY_5 rfl hl (by decide) rfl fun ls hl => ?_
  have hl : lv_has ls 3 [(2, .ref (H0.size)), (0, .ref (b)), (1, .int (iZ (((s : Nat) : Int))))] := hl
  refine pb_aload_n C dX1_middleY_6 rfl (lv_at hl 0 rfl) ?_
  refine pb_aload_n C dX1_middleY_7 rfl (lv_at hl 0 rfl) ?_
  refine pb_getN C in_X17 hO9.r (ci := 7) rfl 2 (by decide) q1694 (fun _ h9 => h9) (v := .int (iZ ((((midY (G s)) : Nat) : Int)))) rfl dX1_middleY_8 ?_
  refine pb_go_x (bc' := 0) (bs' := 0) (pb_runV (rest := []) C hG (met_X17_middle l H0.size (cnt (G s)) _ _ _ hO9.r (Nat.pos_of_ne_zero h0) (by have := cnt_le (G s); omega) ((midY (G s) : Nat) : Int)) hO9.r (ci := 7) rfl (lw_V q1712 q1713 q1714 q92 q1715) ⟨rfl, hdX17_middle⟩ rfl hl.1 rfl (Nat.le_of_ble_eq_true rfl) ⟨(Nat.le_of_ble_eq_true rfl), (Nat.le_of_ble_eq_true rfl)⟩ dX1_middleY_11) (by omega) (by omega) ?_
  exact pb_dret C dX1_middleY_14 (⟨_, rfl, rfl, hF1⟩)

set_option maxHeartbeats 1000000 in
theorem met_X1_fullness {w : pb_W} (l : Launch) {H0 : Heap} (b sl : Nat) (pv : Value) (V : List Nat) (P : Nat → Prop) (G : Nat → Nat → Nat) (hS0 : Sq w H0 P b sl pv V G) (s : Nat) (hs : s < 8) (xl xr xb xt : Nat) (hB : boxP (G s) xl xr xb xt) (h0 : cnt (G s) ≠ 0) : pb_M w l yX1_fullness cX1_fullness 5 (some .float) 5 (4) (16) [.ref (b), .int (iZ (((s : Nat) : Int)))] H0 (pb_qq (fun z H1 => z = .float (fulV (cnt (G s)) ((xr - xl) * (xt - xb))) ∧ pb_F (fun q => q < H0.size) H0 H1)) := by
  refine pb_of (by decide +kernel) (Nat.le_of_ble_eq_true rfl) ?_
  intro p_ e_ s_ m_ ar_ bl_ me_ co_ ls C hh hG hl
  have hl : lv_has ls 5 [(0, .ref (b)), (1, .int (iZ (((s : Nat) : Int))))] := hl
  have hzs := hG.1
  have hS := hS0.below
  have hFF : pb_F (fun q => q < H0.size) H0 H0 := pb_F.rf
  obtain ⟨hPb, hBo, hLr, hV8⟩ := id hS.1
  obtain ⟨hg, L, hR, hr⟩ := hS.2 s hs
  obtain ⟨fsr_, hRo⟩ := hR.o
  obtain ⟨hp1, hp2, hp3, hp4⟩ := rq_pre hg hr
  have hR0 := hR
  have hbl := box_lt hB
  have hpos : 0 < (xr - xl) * (xt - xb) := Nat.mul_pos (by omega) (by omega)
  have hlt : (xr - xl) * (xt - xb) < 1000 := by
    have h9 : (xr - xl) * (xt - xb) ≤ 24 * 24 := Nat.mul_le_mul (by omega) (by omega)
    omega
  refine pb_aload_n C dX1_fullness_0 rfl (lv_at hl 0 rfl) ?_
  refine pb_iload_n C dX1_fullness_1 rfl (lv_at hl 1 rfl) ?_
  refine pb_go_r (bc' := 2) (bs' := 8) (pb_runV (rest := []) C hG (met_X1_middleOf l b sl pv V _ G hS s hs h0) hBo (ci := 0) rfl (lw_V q1681 q1683 qs26 q51 q1684) ⟨rfl, hdX1_middleOf⟩ rfl hl.1 rfl (Nat.le_of_ble_eq_true rfl) ⟨(Nat.le_of_ble_eq_true rfl), (Nat.le_of_ble_eq_true rfl)⟩ dX1_fullness_2) (by omega) (by omega) (fun a_ H_ hp_ => ?_)
  obtain ⟨rfl, v0, hO9, hF1⟩ := hp_
  have hG := hG.kept (hF1.mono (fun q _ (hq : q < w.2.2.2) => show q < _ from by omega))
  have hS := hS.kept hF1
  have hR := hR.kept hF1
  obtain ⟨fsr_, hRo⟩ := hR.o
  have hBo := hBo.kept (hF1.2 _ hBo.lt hBo.lt)
  refine pb_getN C in_X17 hO9.r (ci := 7) rfl 3 (by decide) q1696 (fun _ h9 => h9) (v := .int (iZ ((((cnt (G s)) : Nat) : Int)))) rfl dX1_fullness_5 ?_
  refine pb_istore_n C dX1_fullness_8 rfl hl (by decide) rfl fun ls hl => ?_
  have hl : lv_has ls 5 [(2, .int (iZ ((((cnt (G s)) : Nat) : Int)))), (0, .ref (b)), (1, .int (iZ (((s : Nat) : Int))))] := hl
  obtain ⟨hPb9, hBo, hLr, hV8⟩ := id hS.1
  obtain ⟨fsl_, hLo⟩ := hLr.o
  have hl0 : 0 < L.length := Nat.pos_of_ne_zero (fun h9 => h0 ((len_cnt hg hr).mp h9))
  refine pb_aload_n C dX1_fullness_9 rfl (lv_at hl 1 rfl) ?_
  refine pb_get C in_X1 hBo (ci := 0) rfl 0 (by decide) q227 (fun _ h9 => h9) (v := .ref (sl)) rfl dX1_fullness_10 ?_
  refine pb_iload_n C dX1_fullness_13 rfl (lv_at hl 2 rfl) ?_
  refine pb_go_x (bc' := 2) (bs' := 8) (pb_runF (n := 1) (rest := []) C hG (x := ⟨"java/util/List", "get", "(I)Ljava/lang/Object;"⟩) (met_J2_get l sl _ V hLr s (by omega)) hLo (ci := 15) rfl (by decide) q357 q360 q362 q54 q364 (by decide +kernel) rfl hl.1 rfl (Nat.le_of_ble_eq_true rfl) ⟨(Nat.le_of_ble_eq_true rfl), (Nat.le_of_ble_eq_true rfl)⟩ dX1_fullness_14) (by omega) (by omega) ?_
  refine pb_cast C hRo (ci := 1) rfl q130 dX1_fullness_19 ?_
  refine pb_astore_n C dX1_fullness_22 rfl hl (by decide) rfl fun ls hl => ?_
  have hl : lv_has ls 5 [(3, .ref ((nV V s))), (2, .int (iZ ((((cnt (G s)) : Nat) : Int)))), (0, .ref (b)), (1, .int (iZ (((s : Nat) : Int))))] := hl
  refine pb_aload_n C dX1_fullness_23 rfl (lv_at hl 0 rfl) ?_
  refine pb_go_i (bc' := 1) (bs' := 4) (pb_runV (rest := []) C hG (met_X2_right l (nV V s) _ L hR (rq_two hr)) hRo (ci := 1) rfl (lw_V q1369 q1370 q1371 q55 q1372) ⟨rfl, hdX2_right⟩ rfl hl.1 rfl (Nat.le_of_ble_eq_true rfl) ⟨(Nat.le_of_ble_eq_true rfl), (Nat.le_of_ble_eq_true rfl)⟩ dX1_fullness_24) (by omega) (by omega) (fun z_ H2 hp_ => ?_)
  obtain ⟨rfl, hF2⟩ := hp_
  have hG := hG.kept (hF2.mono (fun q _ (hq : q < w.2.2.2) => show q < _ from by have := hF1.1; omega))
  have hF1 := hF1.tr (hF2.mono (fun q _ (hq : q < H0.size) => show q < _ from by have := hF1.1; omega))
  have hR := hR0.kept hF1
  obtain ⟨fsr_, hRo⟩ := hR.o
  refine pb_eq (g2 := F0 m_ 27 ls [.int (iZ (((xr : Nat) : Int)))]) (congrArg (fun z9 => F0 m_ 27 ls [.int (iZ z9)]) (show (rightF L L.length) = ((xr : Nat) : Int) from (box_law hg hr hB).2.1)) ?_
  refine pb_aload_n C dX1_fullness_27 rfl (lv_at hl 0 rfl) ?_
  refine pb_go_i (bc' := 0) (bs' := 0) (pb_runV (rest := [.int (iZ (((xr : Nat) : Int)))]) C hG (met_X2_left l (nV V s) _ L hR (rq_two hr)) hRo (ci := 1) rfl (lw_V q1357 q1358 q1359 q55 q1360) ⟨rfl, hdX2_left⟩ rfl hl.1 rfl (Nat.le_of_ble_eq_true rfl) ⟨(Nat.le_of_ble_eq_true rfl), (Nat.le_of_ble_eq_true rfl)⟩ dX1_fullness_28) (by omega) (by omega) (fun z_ H3 hp_ => ?_)
  obtain ⟨rfl, hF2⟩ := hp_
  have hG := hG.kept (hF2.mono (fun q _ (hq : q < w.2.2.2) => show q < _ from by have := hF1.1; omega))
  have hF1 := hF1.tr (hF2.mono (fun q _ (hq : q < H0.size) => show q < _ from by have := hF1.1; omega))
  have hR := hR0.kept hF1
  obtain ⟨fsr_, hRo⟩ := hR.o
  refine pb_eq (g2 := F0 m_ 31 ls [.int (iZ (((xl : Nat) : Int))), .int (iZ (((xr : Nat) : Int)))]) (congrArg (fun z9 => F0 m_ 31 ls [.int (iZ z9), .int (iZ (((xr : Nat) : Int)))]) (show (leftF L L.length) = ((xl : Nat) : Int) from (box_law hg hr hB).1)) ?_
  refine pb_isub C dX1_fullness_31 ?_
  refine pb_aload_n C dX1_fullness_32 rfl (lv_at hl 0 rfl) ?_
  refine pb_go_x (bc' := 0) (bs' := 0) (pb_runV (rest := [.int (iZ ((((xr : Nat) : Int) - ((xl : Nat) : Int))))]) C hG (met_X2_top l (nV V s) _ L hR hl0) hRo (ci := 1) rfl (lw_V q1392 q888 q889 q55 q890) ⟨rfl, hdX2_top⟩ rfl hl.1 rfl (Nat.le_of_ble_eq_true rfl) ⟨(Nat.le_of_ble_eq_true rfl), (Nat.le_of_ble_eq_true rfl)⟩ dX1_fullness_33) (by omega) (by omega) ?_
  refine pb_eq (g2 := F0 m_ 36 ls [.int (iZ (((xt : Nat) : Int))), .int (iZ ((((xr : Nat) : Int) - ((xl : Nat) : Int))))]) (congrArg (fun z9 => F0 m_ 36 ls [.int (iZ z9), .int (iZ ((((xr : Nat) : Int) - ((xl : Nat) : Int))))]) (show ((bd L (L.length - 1)).2.1) = ((xt : Nat) : Int) from (box_law hg hr hB).2.2.2)) ?_
  refine pb_aload_n C dX1_fullness_36 rfl (lv_at hl 0 rfl) ?_
  refine pb_go_x (bc' := 0) (bs' := 0) (pb_runV (rest := [.int (iZ (((xt : Nat) : Int))), .int (iZ ((((xr : Nat) : Int) - ((xl : Nat) : Int))))]) C hG (met_X2_bottom l (nV V s) _ L hR hl0) hRo (ci := 1) rfl (lw_V q1381 q1382 q1383 q55 q1384) ⟨rfl, hdX2_bottom⟩ rfl hl.1 rfl (Nat.le_of_ble_eq_true rfl) ⟨(Nat.le_of_ble_eq_true rfl), (Nat.le_of_ble_eq_true rfl)⟩ dX1_fullness_37) (by omega) (by omega) ?_
  refine pb_eq (g2 := F0 m_ 40 ls [.int (iZ (((xb : Nat) : Int))), .int (iZ (((xt : Nat) : Int))), .int (iZ ((((xr : Nat) : Int) - ((xl : Nat) : Int))))]) (congrArg (fun z9 => F0 m_ 40 ls [.int (iZ z9), .int (iZ (((xt : Nat) : Int))), .int (iZ ((((xr : Nat) : Int) - ((xl : Nat) : Int))))]) (show ((bd L 0).1) = ((xb : Nat) : Int) from (box_law hg hr hB).2.2.1)) ?_
  refine pb_isub C dX1_fullness_40 ?_
  refine pb_imul C dX1_fullness_41 ?_
  refine pb_eq (g2 := F0 m_ 42 ls [.int (iZ (((((xr - xl) * (xt - xb)) : Nat) : Int)))]) (congrArg (fun z9 => F0 m_ 42 ls [.int (iZ z9)]) (show ((((xr : Nat) : Int) - ((xl : Nat) : Int)) * (((xt : Nat) : Int) - ((xb : Nat) : Int))) = ((((xr - xl) * (xt - xb)) : Nat) : Int) from (box_cast (by omega) (by omega)))) ?_
  refine pb_istore C dX1_fullness_42 hl (by decide) rfl fun ls hl => ?_
  have hl : lv_has ls 5 [(4, .int (iZ (((((xr - xl) * (xt - xb)) : Nat) : Int)))), (3, .ref ((nV V s))), (2, .int (iZ ((((cnt (G s)) : Nat) : Int)))), (0, .ref (b)), (1, .int (iZ (((s : Nat) : Int))))] := hl
  refine pb_iload_n C dX1_fullness_44 rfl (lv_at hl 2 rfl) ?_
  refine pb_i2f C dX1_fullness_45 ?_
  refine pb_iload C dX1_fullness_46 (lv_at hl 0 rfl) ?_
  refine pb_i2f C dX1_fullness_48 ?_
  refine pb_fdiv C dX1_fullness_49 (fp_fdiv (fp_i2f _) (fp_nz32 hpos hlt)) ?_
  exact pb_fret C dX1_fullness_50 (⟨_, rfl, rfl, hF1⟩)

set_option maxHeartbeats 1000000 in
theorem met_X1_largestRectangle {w : pb_W} (l : Launch) {H0 : Heap} (b sl : Nat) (pv : Value) (V : List Nat) (P : Nat → Prop) (G : Nat → Nat → Nat) (hS0 : Sq w H0 P b sl pv V G) (s : Nat) (hs : s < 8) : pb_M w l yX1_largestRectangle cX1_largestRectangle 2 (some .int) 6 (2881) (70274) [.ref (b), .int (iZ (((s : Nat) : Int)))] H0 (pb_qi (fun z H1 => z = ((larR (G s) : Nat) : Int) ∧ pb_F (fun q => q < H0.size) H0 H1)) := by
  refine pb_of (by decide +kernel) (Nat.le_of_ble_eq_true rfl) ?_
  intro p_ e_ s_ m_ ar_ bl_ me_ co_ ls C hh hG hl
  have hl : lv_has ls 2 [(0, .ref (b)), (1, .int (iZ (((s : Nat) : Int))))] := hl
  have hzs := hG.1
  have hS := hS0.below
  have hFF : pb_F (fun q => q < H0.size) H0 H0 := pb_F.rf
  obtain ⟨hPb, hBo, hLr, hV8⟩ := id hS.1
  obtain ⟨hg, L, hR, hr⟩ := hS.2 s hs
  obtain ⟨fsr_, hRo⟩ := hR.o
  obtain ⟨hp1, hp2, hp3, hp4⟩ := rq_pre hg hr
  refine pb_newE C in_X16 tyX16 tyX16_ok (ci := 14) rfl q1400 q1401 q89 (fs := [.int (iZ (0)), .int (iZ (0))]) (by decide) (bc' := 2880) (bs' := 70272) (by omega) (by omega) dX1_largestRectangle_0 fun a1_ H1_ ha_ hn_ hN1_ => ?_
  have hs1_ : H1_.size = H0.size + 1 := hn_.1
  have hG := hG.kept (hn_.f.mono (fun _ _ _ => trivial))
  have hBo := hBo.kept (hn_.2 _ hBo.lt)
  have hS := hS.kept (hn_.f.mono (fun _ _ _ => trivial))
  have hR := hR.kept (hn_.f.mono (fun _ _ _ => trivial))
  obtain ⟨fsr_, hRo⟩ := hR.o
  have hFF := hFF.tr (hn_.f.mono (fun _ _ _ => trivial))
  obtain rfl : a1_ = H0.size := by omega
  skip
  have hN := hN1_
  refine pb_dup C dX1_largestRectangle_3 rfl ?_
  refine pb_aload_n C dX1_largestRectangle_4 rfl (lv_at hl 0 rfl) ?_
  refine pb_iload_n C dX1_largestRectangle_5 rfl (lv_at hl 1 rfl) ?_
  refine pb_go_x (bc' := 2880) (bs' := 70272) (pb_runV (rest := [.ref (H0.size), .ref (H0.size)]) C hG (met_X1_region l b sl pv V _ G hS s hs) hBo (ci := 0) rfl (lw_V q325 q327 qs4 q51 q328) ⟨rfl, hdX1_region⟩ rfl hl.1 rfl (Nat.le_of_ble_eq_true rfl) ⟨(Nat.le_of_ble_eq_true rfl), (Nat.le_of_ble_eq_true rfl)⟩ dX1_largestRectangle_6) (by omega) (by omega) ?_
  refine pb_go_v (bc' := 2880 - (120 * L.length)) (bs' := 70272 - (2928 * L.length)) (pb_runI (rest := [.ref (H0.size)]) C hG (met_X16_init l H0.size (nV V s) (fun q => q < H0.size) L hR (fun h9 => absurd (show H0.size < H0.size from h9) (Nat.lt_irrefl _)) hp4 (rq_rs hg hr) (fun k f j E h q h8 h9 => (rq_se2 hg hr k f j E h q h8 h9).1) (fun k f j E h q h8 h9 => (rq_se2 hg hr k f j E h q h8 h9).2) (fun k f j E h q h8 h7 h9 => by have h6 := hp2 (f + j); have h5 := hp2 f; omega) (by omega) hN) q1402 q1403 q89 q1404 rfl hdX16_init rfl hl.1 rfl (Nat.le_of_ble_eq_true rfl) ⟨(Nat.le_of_ble_eq_true rfl), (Nat.le_of_ble_eq_true rfl)⟩ dX1_largestRectangle_9) (by omega) (by omega) (fun H_ hp_ => ?_)
  obtain ⟨hO9, hF9⟩ := hp_
  have hFF := hFF.tr (hF9.mono (fun q _ (hq : q < H0.size) => (⟨by omega, by omega⟩ : q < _ ∧ q ≠ _)))
  refine pb_getN C in_X16 hO9.r (ci := 14) rfl 0 (by decide) q1427 (fun _ h9 => h9) (v := .int (iZ ((rsF L L.length).1))) rfl dX1_largestRectangle_12 ?_
  exact pb_iret C dX1_largestRectangle_15 (⟨_, rfl, (rs_law hg hr).1, hFF⟩)

set_option maxHeartbeats 1000000 in
theorem met_X1_largestSquare {w : pb_W} (l : Launch) {H0 : Heap} (b sl : Nat) (pv : Value) (V : List Nat) (P : Nat → Prop) (G : Nat → Nat → Nat) (hS0 : Sq w H0 P b sl pv V G) (s : Nat) (hs : s < 8) : pb_M w l yX1_largestSquare cX1_largestSquare 2 (some .int) 6 (2881) (70274) [.ref (b), .int (iZ (((s : Nat) : Int)))] H0 (pb_qi (fun z H1 => z = ((larS (G s) : Nat) : Int) ∧ pb_F (fun q => q < H0.size) H0 H1)) := by
  refine pb_of (by decide +kernel) (Nat.le_of_ble_eq_true rfl) ?_
  intro p_ e_ s_ m_ ar_ bl_ me_ co_ ls C hh hG hl
  have hl : lv_has ls 2 [(0, .ref (b)), (1, .int (iZ (((s : Nat) : Int))))] := hl
  have hzs := hG.1
  have hS := hS0.below
  have hFF : pb_F (fun q => q < H0.size) H0 H0 := pb_F.rf
  obtain ⟨hPb, hBo, hLr, hV8⟩ := id hS.1
  obtain ⟨hg, L, hR, hr⟩ := hS.2 s hs
  obtain ⟨fsr_, hRo⟩ := hR.o
  obtain ⟨hp1, hp2, hp3, hp4⟩ := rq_pre hg hr
  refine pb_newE C in_X16 tyX16 tyX16_ok (ci := 14) rfl q1400 q1401 q89 (fs := [.int (iZ (0)), .int (iZ (0))]) (by decide) (bc' := 2880) (bs' := 70272) (by omega) (by omega) dX1_largestSquare_0 fun a1_ H1_ ha_ hn_ hN1_ => ?_
  have hs1_ : H1_.size = H0.size + 1 := hn_.1
  have hG := hG.kept (hn_.f.mono (fun _ _ _ => trivial))
  have hBo := hBo.kept (hn_.2 _ hBo.lt)
  have hS := hS.kept (hn_.f.mono (fun _ _ _ => trivial))
  have hR := hR.kept (hn_.f.mono (fun _ _ _ => trivial))
  obtain ⟨fsr_, hRo⟩ := hR.o
  have hFF := hFF.tr (hn_.f.mono (fun _ _ _ => trivial))
  obtain rfl : a1_ = H0.size := by omega
  skip
  have hN := hN1_
  refine pb_dup C dX1_largestSquare_3 rfl ?_
  refine pb_aload_n C dX1_largestSquare_4 rfl (lv_at hl 0 rfl) ?_
  refine pb_iload_n C dX1_largestSquare_5 rfl (lv_at hl 1 rfl) ?_
  refine pb_go_x (bc' := 2880) (bs' := 70272) (pb_runV (rest := [.ref (H0.size), .ref (H0.size)]) C hG (met_X1_region l b sl pv V _ G hS s hs) hBo (ci := 0) rfl (lw_V q325 q327 qs4 q51 q328) ⟨rfl, hdX1_region⟩ rfl hl.1 rfl (Nat.le_of_ble_eq_true rfl) ⟨(Nat.le_of_ble_eq_true rfl), (Nat.le_of_ble_eq_true rfl)⟩ dX1_largestSquare_6) (by omega) (by omega) ?_
  refine pb_go_v (bc' := 2880 - (120 * L.length)) (bs' := 70272 - (2928 * L.length)) (pb_runI (rest := [.ref (H0.size)]) C hG (met_X16_init l H0.size (nV V s) (fun q => q < H0.size) L hR (fun h9 => absurd (show H0.size < H0.size from h9) (Nat.lt_irrefl _)) hp4 (rq_rs hg hr) (fun k f j E h q h8 h9 => (rq_se2 hg hr k f j E h q h8 h9).1) (fun k f j E h q h8 h9 => (rq_se2 hg hr k f j E h q h8 h9).2) (fun k f j E h q h8 h7 h9 => by have h6 := hp2 (f + j); have h5 := hp2 f; omega) (by omega) hN) q1402 q1403 q89 q1404 rfl hdX16_init rfl hl.1 rfl (Nat.le_of_ble_eq_true rfl) ⟨(Nat.le_of_ble_eq_true rfl), (Nat.le_of_ble_eq_true rfl)⟩ dX1_largestSquare_9) (by omega) (by omega) (fun H_ hp_ => ?_)
  obtain ⟨hO9, hF9⟩ := hp_
  have hFF := hFF.tr (hF9.mono (fun q _ (hq : q < H0.size) => (⟨by omega, by omega⟩ : q < _ ∧ q ≠ _)))
  refine pb_getN C in_X16 hO9.r (ci := 14) rfl 1 (by decide) q1429 (fun _ h9 => h9) (v := .int (iZ ((rsF L L.length).2))) rfl dX1_largestSquare_12 ?_
  exact pb_iret C dX1_largestSquare_15 (⟨_, rfl, (rs_law hg hr).2, hFF⟩)

