set_option maxRecDepth 100000
set_option maxHeartbeats 1000000 in
theorem met_X1_outlineCount {w : pb_W} (l : Launch) {H0 : Heap} (b sl : Nat) (pv : Value) (V : List Nat) (P : Nat → Prop) (G : Nat → Nat → Nat) (hS0 : Sq w H0 P b sl pv V G) (s : Nat) (hs : s < 8) : pb_M w l yX1_outlineCount cX1_outlineCount 2 (some .int) 10 (3779 + lC 312) (25127 + lS 312) [.ref (b), .int (iZ (((s : Nat) : Int)))] H0 (pb_qi (fun z H1 => z = (((outs (G s) 2500).length : Nat) : Int) ∧ pb_F (fun q => q < H0.size) H0 H1)) := by
  refine pb_of (by decide +kernel) (Nat.le_of_ble_eq_true rfl) ?_
  intro p_ e_ s_ m_ ar_ bl_ me_ co_ ls C hh hG hl
  have hl : lv_has ls 2 [(0, .ref (b)), (1, .int (iZ (((s : Nat) : Int))))] := hl
  have hzs := hG.1
  have hS := hS0.below
  have hFF : pb_F (fun q => q < H0.size) H0 H0 := pb_F.rf
  obtain ⟨hPb, hBo, hLr, hV8⟩ := id hS.1
  obtain ⟨hg, L, hR, hr⟩ := hS.2 s hs
  obtain ⟨fsr_, hRo⟩ := hR.o
  obtain ⟨hp1, hp2, hp3, hp4⟩ := rq_pre hg hr
  refine pb_newE C in_X14 tyX14 tyX14_ok (ci := 12) rfl q1224 q1225 q86 (fs := [.null, .null, .null]) (by decide) (bc' := 3779 + lC 312 - 1) (bs' := 25127 + lS 312 - 3) (by omega) (by omega) dX1_outlineCount_0 fun a1_ H1_ ha_ hn_ hN1_ => ?_
  have hs1_ : H1_.size = H0.size + 1 := hn_.1
  have hG := hG.kept (hn_.f.mono (fun _ _ _ => trivial))
  have hBo := hBo.kept (hn_.2 _ hBo.lt)
  have hS := hS.kept (hn_.f.mono (fun _ _ _ => trivial))
  have hR := hR.kept (hn_.f.mono (fun _ _ _ => trivial))
  obtain ⟨fsr_, hRo⟩ := hR.o
  have hFF := hFF.tr (hn_.f.mono (fun _ _ _ => trivial))
  obtain rfl : a1_ = H0.size := by omega
  skip
  have hN := hN1_
  refine pb_dup C dX1_outlineCount_3 rfl ?_
  refine pb_aload_n C dX1_outlineCount_4 rfl (lv_at hl 0 rfl) ?_
  refine pb_iload_n C dX1_outlineCount_5 rfl (lv_at hl 1 rfl) ?_
  refine pb_go_x (bc' := 3779 + lC 312 - 1) (bs' := 25127 + lS 312 - 3) (pb_runV (rest := [.ref (H0.size), .ref (H0.size)]) C hG (met_X1_region l b sl pv V _ G hS s hs) hBo (ci := 0) rfl (lw_V q325 q327 qs4 q51 q328) ⟨rfl, hdX1_region⟩ rfl hl.1 rfl (Nat.le_of_ble_eq_true rfl) ⟨(Nat.le_of_ble_eq_true rfl), (Nat.le_of_ble_eq_true rfl)⟩ dX1_outlineCount_6) (by omega) (by omega) ?_
  refine pb_go_v (bc' := 3779 + lC 312 - 1 - (28 + 3750 + lC 312)) (bs' := 25127 + lS 312 - 3 - (2624 + 22500 + lS 312)) (pb_runI (rest := [.ref (H0.size)]) C hG (met_X14_init l 0 H0.size (nV V s) (fun q => q < H0.size) L (by omega) hR (fun h9 => absurd (show H0.size < H0.size from h9) (Nat.lt_irrefl _)) hN hp3 (row_le hr.1)) q1226 q1227 q86 q1228 rfl hdX14_init rfl hl.1 rfl (Nat.le_of_ble_eq_true rfl) ⟨(Nat.le_of_ble_eq_true rfl), (Nat.le_of_ble_eq_true rfl)⟩ dX1_outlineCount_9) (by omega) (by omega) (fun H_ hp_ => ?_)
  obtain ⟨g9, hge, hT, hF1⟩ := hp_
  rw [ofG_law hg hr] at hge
  subst hge
  obtain ⟨c9, u9, ol, V9, hPt, hTo, hLr9, hOL⟩ := hT
  have hG := hG.kept (hF1.mono (fun q _ (hq : q < w.2.2.2) => (⟨by omega, by omega⟩ : q < _ ∧ q ≠ _)))
  have hFF := hFF.tr (hF1.mono (fun q _ (hq : q < H0.size) => (⟨by omega, by omega⟩ : q < _ ∧ q ≠ _)))
  have hLr9 := hLr9.below
  have hOL : OL w H_ (fun q => q < H_.size) (G s) V9 (outs (G s) 2500) := hOL.mono (fun q h9 _ => h9)
  obtain ⟨fsl9_, hLo9⟩ := hLr9.o
  have hn9 := hLr9.n
  have hV9 := hOL.1
  refine pb_getN C in_X14 hTo (ci := 12) rfl 2 (by decide) q1308 (fun _ h9 => h9) (v := .ref (ol)) rfl dX1_outlineCount_12 ?_
  refine pb_go_x (bc' := 3779 + lC 312 - 1 - (28 + 3750 + lC 312)) (bs' := 25127 + lS 312 - 3 - (2624 + 22500 + lS 312)) (pb_runF (n := 0) (rest := []) C hG (x := ⟨"java/util/List", "size", "()I"⟩) (met_J2_size l ol _ V9 hLr9) hLo9 (ci := 15) rfl (by decide) q1188 q444 q446 q54 q448 (by decide +kernel) rfl hl.1 rfl (Nat.le_of_ble_eq_true rfl) ⟨(Nat.le_of_ble_eq_true rfl), (Nat.le_of_ble_eq_true rfl)⟩ dX1_outlineCount_15) (by omega) (by omega) ?_
  exact pb_iret C dX1_outlineCount_20 (⟨_, rfl, by rw [hV9], hFF⟩)

set_option maxHeartbeats 1000000 in
theorem met_X1_outline {w : pb_W} (l : Launch) {H0 : Heap} (b sl : Nat) (pv : Value) (V : List Nat) (P : Nat → Prop) (G : Nat → Nat → Nat) (hS0 : Sq w H0 P b sl pv V G) (s : Nat) (hs : s < 8) (q : Nat) (d : Nat × Nat × Nat) (hq : (outs (G s) 2500)[q]? = some d) : pb_M w l yX1_outline cX1_outline 4 (some (.object "PolygonBoard$Outline")) 10 (3779 + lC 312) (25127 + lS 312) [.ref (b), .int (iZ (((s : Nat) : Int))), .int (iZ (((q : Nat) : Int)))] H0 (pb_qr (fun o H1 => Og w H1 (fun q => q < H1.size) o (crn (G s) d) (arA (G s) d) ∧ pb_F (fun q => q < H0.size) H0 H1)) := by
  refine pb_of (by decide +kernel) (Nat.le_of_ble_eq_true rfl) ?_
  intro p_ e_ s_ m_ ar_ bl_ me_ co_ ls C hh hG hl
  have hl : lv_has ls 4 [(0, .ref (b)), (1, .int (iZ (((s : Nat) : Int)))), (2, .int (iZ (((q : Nat) : Int))))] := hl
  have hzs := hG.1
  have hS := hS0.below
  have hFF : pb_F (fun q => q < H0.size) H0 H0 := pb_F.rf
  obtain ⟨hPb, hBo, hLr, hV8⟩ := id hS.1
  obtain ⟨hg, L, hR, hr⟩ := hS.2 s hs
  obtain ⟨fsr_, hRo⟩ := hR.o
  obtain ⟨hp1, hp2, hp3, hp4⟩ := rq_pre hg hr
  have hql := get_lt hq
  refine pb_newE C in_X14 tyX14 tyX14_ok (ci := 12) rfl q1224 q1225 q86 (fs := [.null, .null, .null]) (by decide) (bc' := 3779 + lC 312 - 1) (bs' := 25127 + lS 312 - 3) (by omega) (by omega) dX1_outline_0 fun a1_ H1_ ha_ hn_ hN1_ => ?_
  have hs1_ : H1_.size = H0.size + 1 := hn_.1
  have hG := hG.kept (hn_.f.mono (fun _ _ _ => trivial))
  have hBo := hBo.kept (hn_.2 _ hBo.lt)
  have hS := hS.kept (hn_.f.mono (fun _ _ _ => trivial))
  have hR := hR.kept (hn_.f.mono (fun _ _ _ => trivial))
  obtain ⟨fsr_, hRo⟩ := hR.o
  have hFF := hFF.tr (hn_.f.mono (fun _ _ _ => trivial))
  obtain rfl : a1_ = H0.size := by omega
  skip
  have hN := hN1_
  refine pb_dup C dX1_outline_3 rfl ?_
  refine pb_aload_n C dX1_outline_4 rfl (lv_at hl 0 rfl) ?_
  refine pb_iload_n C dX1_outline_5 rfl (lv_at hl 1 rfl) ?_
  refine pb_go_x (bc' := 3779 + lC 312 - 1) (bs' := 25127 + lS 312 - 3) (pb_runV (rest := [.ref (H0.size), .ref (H0.size)]) C hG (met_X1_region l b sl pv V _ G hS s hs) hBo (ci := 0) rfl (lw_V q325 q327 qs4 q51 q328) ⟨rfl, hdX1_region⟩ rfl hl.1 rfl (Nat.le_of_ble_eq_true rfl) ⟨(Nat.le_of_ble_eq_true rfl), (Nat.le_of_ble_eq_true rfl)⟩ dX1_outline_6) (by omega) (by omega) ?_
  refine pb_go_v (bc' := 3779 + lC 312 - 1 - (28 + 3750 + lC 312)) (bs' := 25127 + lS 312 - 3 - (2624 + 22500 + lS 312)) (pb_runI (rest := [.ref (H0.size)]) C hG (met_X14_init l 0 H0.size (nV V s) (fun q => q < H0.size) L (by omega) hR (fun h9 => absurd (show H0.size < H0.size from h9) (Nat.lt_irrefl _)) hN hp3 (row_le hr.1)) q1226 q1227 q86 q1228 rfl hdX14_init rfl hl.1 rfl (Nat.le_of_ble_eq_true rfl) ⟨(Nat.le_of_ble_eq_true rfl), (Nat.le_of_ble_eq_true rfl)⟩ dX1_outline_9) (by omega) (by omega) (fun H_ hp_ => ?_)
  obtain ⟨g9, hge, hT, hF1⟩ := hp_
  rw [ofG_law hg hr] at hge
  subst hge
  obtain ⟨c9, u9, ol, V9, hPt, hTo, hLr9, hOL⟩ := hT
  have hG := hG.kept (hF1.mono (fun q _ (hq : q < w.2.2.2) => (⟨by omega, by omega⟩ : q < _ ∧ q ≠ _)))
  have hFF := hFF.tr (hF1.mono (fun q _ (hq : q < H0.size) => (⟨by omega, by omega⟩ : q < _ ∧ q ≠ _)))
  have hLr9 := hLr9.below
  have hOL : OL w H_ (fun q => q < H_.size) (G s) V9 (outs (G s) 2500) := hOL.mono (fun q h9 _ => h9)
  obtain ⟨fsl9_, hLo9⟩ := hLr9.o
  have hn9 := hLr9.n
  have hV9 := hOL.1
  refine pb_getN C in_X14 hTo (ci := 12) rfl 2 (by decide) q1308 (fun _ h9 => h9) (v := .ref (ol)) rfl dX1_outline_12 ?_
  refine pb_astore_n C dX1_outline_15 rfl hl (by decide) rfl fun ls hl => ?_
  have hl : lv_has ls 4 [(3, .ref (ol)), (0, .ref (b)), (1, .int (iZ (((s : Nat) : Int)))), (2, .int (iZ (((q : Nat) : Int))))] := hl
  refine pb_iload_n C dX1_outline_16 rfl (lv_at hl 3 rfl) ?_
  refine pb_ic C dX1_outline_17 ?_
  refine pb_aload_n C dX1_outline_18 rfl (lv_at hl 0 rfl) ?_
  refine pb_go_x (bc' := 3779 + lC 312 - 1 - (28 + 3750 + lC 312)) (bs' := 25127 + lS 312 - 3 - (2624 + 22500 + lS 312)) (pb_runF (n := 0) (rest := [.int (iZ (0)), .int (iZ (((q : Nat) : Int)))]) C hG (x := ⟨"java/util/List", "size", "()I"⟩) (met_J2_size l ol _ V9 hLr9) hLo9 (ci := 15) rfl (by decide) q1188 q444 q446 q54 q448 (by decide +kernel) rfl hl.1 rfl (Nat.le_of_ble_eq_true rfl) ⟨(Nat.le_of_ble_eq_true rfl), (Nat.le_of_ble_eq_true rfl)⟩ dX1_outline_19) (by omega) (by omega) ?_
  refine pb_ic C dX1_outline_24 ?_
  refine pb_isub C dX1_outline_25 ?_
  refine pb_go_x (bc' := 3779 + lC 312 - 1 - (28 + 3750 + lC 312)) (bs' := 25127 + lS 312 - 3 - (2624 + 22500 + lS 312)) (pb_runS (rest := []) C hG (met_X1_isBetween l ((q : Nat) : Int) 0 (((V9.length : Nat) : Int) - 1) (by omega) (by decide) (by omega)) (lw_S q332 q333 q51 q334) hdX1_isBetween rfl hl.1 rfl (Nat.le_of_ble_eq_true rfl) ⟨(Nat.le_of_ble_eq_true rfl), (Nat.le_of_ble_eq_true rfl)⟩ dX1_outline_26) (by omega) (by omega) ?_
  refine pb_eq (g2 := F0 m_ 29 ls [.int (iZ (1))]) (congrArg (fun z9 => F0 m_ 29 ls [.int (iZ z9)]) (show (bI (decide (0 ≤ ((q : Nat) : Int) ∧ ((q : Nat) : Int) ≤ ((V9.length : Nat) : Int) - 1))) = 1 from (bI_t (decide_eq_true (by omega))))) ?_
  refine pb_go_n (bc' := 3779 + lC 312 - 1 - (28 + 3750 + lC 312)) (bs' := 25127 + lS 312 - 3 - (2624 + 22500 + lS 312)) (pb_runS (rest := []) C hG (met_X1_checkElement l) (lw_S q1082 q1083 q51 q1084) hdX1_checkElement rfl hl.1 rfl (Nat.le_of_ble_eq_true rfl) ⟨(Nat.le_of_ble_eq_true rfl), (Nat.le_of_ble_eq_true rfl)⟩ dX1_outline_29) (by omega) (by omega) ?_
  refine pb_aload_n C dX1_outline_32 rfl (lv_at hl 0 rfl) ?_
  refine pb_iload_n C dX1_outline_33 rfl (lv_at hl 3 rfl) ?_
  refine pb_go_x (bc' := 3779 + lC 312 - 1 - (28 + 3750 + lC 312)) (bs' := 25127 + lS 312 - 3 - (2624 + 22500 + lS 312)) (pb_runF (n := 1) (rest := []) C hG (x := ⟨"java/util/List", "get", "(I)Ljava/lang/Object;"⟩) (met_J2_get l ol _ V9 hLr9 q (by omega)) hLo9 (ci := 15) rfl (by decide) q357 q360 q362 q54 q364 (by decide +kernel) rfl hl.1 rfl (Nat.le_of_ble_eq_true rfl) ⟨(Nat.le_of_ble_eq_true rfl), (Nat.le_of_ble_eq_true rfl)⟩ dX1_outline_34) (by omega) (by omega) ?_
  have hOg := hOL.2 q d hq
  obtain ⟨xa, ya, hPo, hOo, hxa, hya, h24⟩ := id hOg
  refine pb_cast C hOo (ci := 13) rfl q1322 dX1_outline_39 ?_
  exact pb_aret C (Or.inl ⟨_, rfl⟩) dX1_outline_42 (Or.inr ⟨_, rfl⟩) (⟨_, rfl, hOg, hFF⟩)

set_option maxHeartbeats 1000000 in
theorem met_X1_cornerCount {w : pb_W} (l : Launch) {H0 : Heap} (b sl : Nat) (pv : Value) (V : List Nat) (P : Nat → Prop) (G : Nat → Nat → Nat) (hS0 : Sq w H0 P b sl pv V G) (s : Nat) (hs : s < 8) (q : Nat) (d : Nat × Nat × Nat) (hq : (outs (G s) 2500)[q]? = some d) : pb_M w l yX1_cornerCount cX1_cornerCount 3 (some .int) 11 (3779 + lC 312) (25127 + lS 312) [.ref (b), .int (iZ (((s : Nat) : Int))), .int (iZ (((q : Nat) : Int)))] H0 (pb_qi (fun z H1 => z = (((crn (G s) d).length : Nat) : Int) ∧ pb_F (fun q => q < H0.size) H0 H1)) := by
  refine pb_of (by decide +kernel) (Nat.le_of_ble_eq_true rfl) ?_
  intro p_ e_ s_ m_ ar_ bl_ me_ co_ ls C hh hG hl
  have hl : lv_has ls 3 [(0, .ref (b)), (1, .int (iZ (((s : Nat) : Int)))), (2, .int (iZ (((q : Nat) : Int))))] := hl
  have hzs := hG.1
  have hS := hS0.below
  have hFF : pb_F (fun q => q < H0.size) H0 H0 := pb_F.rf
  obtain ⟨hPb, hBo, hLr, hV8⟩ := id hS.1
  obtain ⟨hg, L, hR, hr⟩ := hS.2 s hs
  obtain ⟨fsr_, hRo⟩ := hR.o
  obtain ⟨hp1, hp2, hp3, hp4⟩ := rq_pre hg hr
  refine pb_aload_n C dX1_cornerCount_0 rfl (lv_at hl 0 rfl) ?_
  refine pb_iload_n C dX1_cornerCount_1 rfl (lv_at hl 1 rfl) ?_
  refine pb_iload_n C dX1_cornerCount_2 rfl (lv_at hl 2 rfl) ?_
  refine pb_go_r (bc' := 3779 + lC 312 - (3779 + lC 312)) (bs' := 25127 + lS 312 - (25127 + lS 312)) (pb_runV (rest := []) C hG (met_X1_outline l b sl pv V _ G hS s hs q d hq) hBo (ci := 0) rfl (lw_V q1599 q1601 qs24 q51 q1602) ⟨rfl, hdX1_outline⟩ rfl hl.1 rfl (Nat.le_of_ble_eq_true rfl) ⟨(Nat.le_of_ble_eq_true rfl), (Nat.le_of_ble_eq_true rfl)⟩ dX1_cornerCount_3) (by omega) (by omega) (fun o9 H_ hp_ => ?_)
  obtain ⟨hOg, hF1⟩ := hp_
  have hG := hG.kept (hF1.mono (fun q _ (hq : q < w.2.2.2) => show q < _ from by omega))
  obtain ⟨xa, ya, hPo, hOo, hxa, hya, h24⟩ := id hOg
  obtain ⟨VX, hVX⟩ : ∃ VX, VX = (crn (G s) d).map fun d => cB w d.1 := ⟨_, rfl⟩
  obtain ⟨VY, hVY⟩ : ∃ VY, VY = (crn (G s) d).map fun d => cB w d.2.1 := ⟨_, rfl⟩
  rw [← hVX] at hxa
  rw [← hVY] at hya
  have hlx : VX.length = (crn (G s) d).length := by rw [hVX, List.length_map]
  have hly : VY.length = (crn (G s) d).length := by rw [hVY, List.length_map]
  have hnx := hxa.n
  obtain ⟨fsx_, hXo⟩ := hxa.o
  obtain ⟨fsy_, hYo⟩ := hya.o
  refine pb_getN C in_X15 hOo (ci := 13) rfl 0 (by decide) q1251 (fun _ h9 => h9) (v := .ref (xa)) rfl dX1_cornerCount_6 ?_
  refine pb_go_x (bc' := 3779 + lC 312 - (3779 + lC 312)) (bs' := 25127 + lS 312 - (25127 + lS 312)) (pb_runF (n := 0) (rest := []) C hG (x := ⟨"java/util/List", "size", "()I"⟩) (met_J2_size l xa _ VX hxa) hXo (ci := 15) rfl (by decide) q1188 q444 q446 q54 q448 (by decide +kernel) rfl hl.1 rfl (Nat.le_of_ble_eq_true rfl) ⟨(Nat.le_of_ble_eq_true rfl), (Nat.le_of_ble_eq_true rfl)⟩ dX1_cornerCount_9) (by omega) (by omega) ?_
  exact pb_iret C dX1_cornerCount_14 (⟨_, rfl, by rw [hlx], hF1⟩)

set_option maxHeartbeats 1000000 in
theorem met_X1_signedArea {w : pb_W} (l : Launch) {H0 : Heap} (b sl : Nat) (pv : Value) (V : List Nat) (P : Nat → Prop) (G : Nat → Nat → Nat) (hS0 : Sq w H0 P b sl pv V G) (s : Nat) (hs : s < 8) (q : Nat) (d : Nat × Nat × Nat) (hq : (outs (G s) 2500)[q]? = some d) : pb_M w l yX1_signedArea cX1_signedArea 3 (some .int) 11 (3779 + lC 312) (25127 + lS 312) [.ref (b), .int (iZ (((s : Nat) : Int))), .int (iZ (((q : Nat) : Int)))] H0 (pb_qi (fun z H1 => z = arA (G s) d ∧ pb_F (fun q => q < H0.size) H0 H1)) := by
  refine pb_of (by decide +kernel) (Nat.le_of_ble_eq_true rfl) ?_
  intro p_ e_ s_ m_ ar_ bl_ me_ co_ ls C hh hG hl
  have hl : lv_has ls 3 [(0, .ref (b)), (1, .int (iZ (((s : Nat) : Int)))), (2, .int (iZ (((q : Nat) : Int))))] := hl
  have hzs := hG.1
  have hS := hS0.below
  have hFF : pb_F (fun q => q < H0.size) H0 H0 := pb_F.rf
  obtain ⟨hPb, hBo, hLr, hV8⟩ := id hS.1
  obtain ⟨hg, L, hR, hr⟩ := hS.2 s hs
  obtain ⟨fsr_, hRo⟩ := hR.o
  obtain ⟨hp1, hp2, hp3, hp4⟩ := rq_pre hg hr
  refine pb_aload_n C dX1_signedArea_0 rfl (lv_at hl 0 rfl) ?_
  refine pb_iload_n C dX1_signedArea_1 rfl (lv_at hl 1 rfl) ?_
  refine pb_iload_n C dX1_signedArea_2 rfl (lv_at hl 2 rfl) ?_
  refine pb_go_r (bc' := 3779 + lC 312 - (3779 + lC 312)) (bs' := 25127 + lS 312 - (25127 + lS 312)) (pb_runV (rest := []) C hG (met_X1_outline l b sl pv V _ G hS s hs q d hq) hBo (ci := 0) rfl (lw_V q1599 q1601 qs24 q51 q1602) ⟨rfl, hdX1_outline⟩ rfl hl.1 rfl (Nat.le_of_ble_eq_true rfl) ⟨(Nat.le_of_ble_eq_true rfl), (Nat.le_of_ble_eq_true rfl)⟩ dX1_signedArea_3) (by omega) (by omega) (fun o9 H_ hp_ => ?_)
  obtain ⟨hOg, hF1⟩ := hp_
  have hG := hG.kept (hF1.mono (fun q _ (hq : q < w.2.2.2) => show q < _ from by omega))
  obtain ⟨xa, ya, hPo, hOo, hxa, hya, h24⟩ := id hOg
  obtain ⟨VX, hVX⟩ : ∃ VX, VX = (crn (G s) d).map fun d => cB w d.1 := ⟨_, rfl⟩
  obtain ⟨VY, hVY⟩ : ∃ VY, VY = (crn (G s) d).map fun d => cB w d.2.1 := ⟨_, rfl⟩
  rw [← hVX] at hxa
  rw [← hVY] at hya
  have hlx : VX.length = (crn (G s) d).length := by rw [hVX, List.length_map]
  have hly : VY.length = (crn (G s) d).length := by rw [hVY, List.length_map]
  have hnx := hxa.n
  obtain ⟨fsx_, hXo⟩ := hxa.o
  obtain ⟨fsy_, hYo⟩ := hya.o
  refine pb_getN C in_X15 hOo (ci := 13) rfl 2 (by decide) q1255 (fun _ h9 => h9) (v := .int (iZ ((arA (G s) d)))) rfl dX1_signedArea_6 ?_
  exact pb_iret C dX1_signedArea_9 (⟨_, rfl, rfl, hF1⟩)

set_option maxHeartbeats 1000000 in
theorem met_X1_outlineWith {w : pb_W} (l : Launch) {H0 : Heap} (b sl : Nat) (pv : Value) (V : List Nat) (P : Nat → Prop) (G : Nat → Nat → Nat) (hS0 : Sq w H0 P b sl pv V G) (s : Nat) (hs : s < 8) (q : Nat) (d : Nat × Nat × Nat) (hq : (outs (G s) 2500)[q]? = some d) (c : Nat) (e : Nat × Nat × Nat) (hc : (crn (G s) d)[c]? = some e) : pb_M w l yX1_outlineWith cX1_outlineWith 5 (some (.object "PolygonBoard$Outline")) 11 (3779 + lC 312) (25127 + lS 312) [.ref (b), .int (iZ (((s : Nat) : Int))), .int (iZ (((q : Nat) : Int))), .int (iZ (((c : Nat) : Int)))] H0 (pb_qr (fun o H1 => Og w H1 (fun q => q < H1.size) o (crn (G s) d) (arA (G s) d) ∧ pb_F (fun q => q < H0.size) H0 H1)) := by
  refine pb_of (by decide +kernel) (Nat.le_of_ble_eq_true rfl) ?_
  intro p_ e_ s_ m_ ar_ bl_ me_ co_ ls C hh hG hl
  have hl : lv_has ls 5 [(0, .ref (b)), (1, .int (iZ (((s : Nat) : Int)))), (2, .int (iZ (((q : Nat) : Int)))), (3, .int (iZ (((c : Nat) : Int))))] := hl
  have hzs := hG.1
  have hS := hS0.below
  have hFF : pb_F (fun q => q < H0.size) H0 H0 := pb_F.rf
  obtain ⟨hPb, hBo, hLr, hV8⟩ := id hS.1
  obtain ⟨hg, L, hR, hr⟩ := hS.2 s hs
  obtain ⟨fsr_, hRo⟩ := hR.o
  obtain ⟨hp1, hp2, hp3, hp4⟩ := rq_pre hg hr
  have hcl := get_lt hc
  refine pb_aload_n C dX1_outlineWith_0 rfl (lv_at hl 0 rfl) ?_
  refine pb_iload_n C dX1_outlineWith_1 rfl (lv_at hl 1 rfl) ?_
  refine pb_iload_n C dX1_outlineWith_2 rfl (lv_at hl 2 rfl) ?_
  refine pb_go_r (bc' := 3779 + lC 312 - (3779 + lC 312)) (bs' := 25127 + lS 312 - (25127 + lS 312)) (pb_runV (rest := []) C hG (met_X1_outline l b sl pv V _ G hS s hs q d hq) hBo (ci := 0) rfl (lw_V q1599 q1601 qs24 q51 q1602) ⟨rfl, hdX1_outline⟩ rfl hl.1 rfl (Nat.le_of_ble_eq_true rfl) ⟨(Nat.le_of_ble_eq_true rfl), (Nat.le_of_ble_eq_true rfl)⟩ dX1_outlineWith_3) (by omega) (by omega) (fun o9 H_ hp_ => ?_)
  obtain ⟨hOg, hF1⟩ := hp_
  have hG := hG.kept (hF1.mono (fun q _ (hq : q < w.2.2.2) => show q < _ from by omega))
  obtain ⟨xa, ya, hPo, hOo, hxa, hya, h24⟩ := id hOg
  obtain ⟨VX, hVX⟩ : ∃ VX, VX = (crn (G s) d).map fun d => cB w d.1 := ⟨_, rfl⟩
  obtain ⟨VY, hVY⟩ : ∃ VY, VY = (crn (G s) d).map fun d => cB w d.2.1 := ⟨_, rfl⟩
  rw [← hVX] at hxa
  rw [← hVY] at hya
  have hlx : VX.length = (crn (G s) d).length := by rw [hVX, List.length_map]
  have hly : VY.length = (crn (G s) d).length := by rw [hVY, List.length_map]
  have hnx := hxa.n
  obtain ⟨fsx_, hXo⟩ := hxa.o
  obtain ⟨fsy_, hYo⟩ := hya.o
  refine pb_astore C dX1_outlineWith_6 hl (by decide) rfl fun ls hl => ?_
  have hl : lv_has ls 5 [(4, .ref (o9)), (0, .ref (b)), (1, .int (iZ (((s : Nat) : Int)))), (2, .int (iZ (((q : Nat) : Int)))), (3, .int (iZ (((c : Nat) : Int))))] := hl
  refine pb_iload_n C dX1_outlineWith_8 rfl (lv_at hl 4 rfl) ?_
  refine pb_ic C dX1_outlineWith_9 ?_
  refine pb_aload C dX1_outlineWith_10 (lv_at hl 0 rfl) ?_
  refine pb_getN C in_X15 hOo (ci := 13) rfl 0 (by decide) q1251 (fun _ h9 => h9) (v := .ref (xa)) rfl dX1_outlineWith_12 ?_
  refine pb_go_x (bc' := 3779 + lC 312 - (3779 + lC 312)) (bs' := 25127 + lS 312 - (25127 + lS 312)) (pb_runF (n := 0) (rest := [.int (iZ (0)), .int (iZ (((c : Nat) : Int)))]) C hG (x := ⟨"java/util/List", "size", "()I"⟩) (met_J2_size l xa _ VX hxa) hXo (ci := 15) rfl (by decide) q1188 q444 q446 q54 q448 (by decide +kernel) rfl hl.1 rfl (Nat.le_of_ble_eq_true rfl) ⟨(Nat.le_of_ble_eq_true rfl), (Nat.le_of_ble_eq_true rfl)⟩ dX1_outlineWith_15) (by omega) (by omega) ?_
  refine pb_ic C dX1_outlineWith_20 ?_
  refine pb_isub C dX1_outlineWith_21 ?_
  refine pb_go_x (bc' := 3779 + lC 312 - (3779 + lC 312)) (bs' := 25127 + lS 312 - (25127 + lS 312)) (pb_runS (rest := []) C hG (met_X1_isBetween l ((c : Nat) : Int) 0 (((VX.length : Nat) : Int) - 1) (by omega) (by decide) (by omega)) (lw_S q332 q333 q51 q334) hdX1_isBetween rfl hl.1 rfl (Nat.le_of_ble_eq_true rfl) ⟨(Nat.le_of_ble_eq_true rfl), (Nat.le_of_ble_eq_true rfl)⟩ dX1_outlineWith_22) (by omega) (by omega) ?_
  refine pb_eq (g2 := F0 m_ 25 ls [.int (iZ (1))]) (congrArg (fun z9 => F0 m_ 25 ls [.int (iZ z9)]) (show (bI (decide (0 ≤ ((c : Nat) : Int) ∧ ((c : Nat) : Int) ≤ ((VX.length : Nat) : Int) - 1))) = 1 from (bI_t (decide_eq_true (by omega))))) ?_
  refine pb_go_n (bc' := 3779 + lC 312 - (3779 + lC 312)) (bs' := 25127 + lS 312 - (25127 + lS 312)) (pb_runS (rest := []) C hG (met_X1_checkElement l) (lw_S q1082 q1083 q51 q1084) hdX1_checkElement rfl hl.1 rfl (Nat.le_of_ble_eq_true rfl) ⟨(Nat.le_of_ble_eq_true rfl), (Nat.le_of_ble_eq_true rfl)⟩ dX1_outlineWith_25) (by omega) (by omega) ?_
  refine pb_aload C dX1_outlineWith_28 (lv_at hl 0 rfl) ?_
  exact pb_aret C (Or.inl ⟨_, rfl⟩) dX1_outlineWith_30 (Or.inr ⟨_, rfl⟩) (⟨_, rfl, hOg, hF1⟩)

set_option maxHeartbeats 1000000 in
theorem met_X1_cornerX {w : pb_W} (l : Launch) {H0 : Heap} (b sl : Nat) (pv : Value) (V : List Nat) (P : Nat → Prop) (G : Nat → Nat → Nat) (hS0 : Sq w H0 P b sl pv V G) (s : Nat) (hs : s < 8) (q : Nat) (d : Nat × Nat × Nat) (hq : (outs (G s) 2500)[q]? = some d) (c : Nat) (e : Nat × Nat × Nat) (hc : (crn (G s) d)[c]? = some e) : pb_M w l yX1_cornerX cX1_cornerX 4 (some .int) 12 (3779 + lC 312) (25127 + lS 312) [.ref (b), .int (iZ (((s : Nat) : Int))), .int (iZ (((q : Nat) : Int))), .int (iZ (((c : Nat) : Int)))] H0 (pb_qi (fun z H1 => z = ((e.1 : Nat) : Int) ∧ pb_F (fun q => q < H0.size) H0 H1)) := by
  refine pb_of (by decide +kernel) (Nat.le_of_ble_eq_true rfl) ?_
  intro p_ e_ s_ m_ ar_ bl_ me_ co_ ls C hh hG hl
  have hl : lv_has ls 4 [(0, .ref (b)), (1, .int (iZ (((s : Nat) : Int)))), (2, .int (iZ (((q : Nat) : Int)))), (3, .int (iZ (((c : Nat) : Int))))] := hl
  have hzs := hG.1
  have hS := hS0.below
  have hFF : pb_F (fun q => q < H0.size) H0 H0 := pb_F.rf
  obtain ⟨hPb, hBo, hLr, hV8⟩ := id hS.1
  obtain ⟨hg, L, hR, hr⟩ := hS.2 s hs
  obtain ⟨fsr_, hRo⟩ := hR.o
  obtain ⟨hp1, hp2, hp3, hp4⟩ := rq_pre hg hr
  have hcl := get_lt hc
  refine pb_aload_n C dX1_cornerX_0 rfl (lv_at hl 0 rfl) ?_
  refine pb_iload_n C dX1_cornerX_1 rfl (lv_at hl 1 rfl) ?_
  refine pb_iload_n C dX1_cornerX_2 rfl (lv_at hl 2 rfl) ?_
  refine pb_iload_n C dX1_cornerX_3 rfl (lv_at hl 3 rfl) ?_
  refine pb_go_r (bc' := 3779 + lC 312 - (3779 + lC 312)) (bs' := 25127 + lS 312 - (25127 + lS 312)) (pb_runV (rest := []) C hG (met_X1_outlineWith l b sl pv V _ G hS s hs q d hq c e hc) hBo (ci := 0) rfl (lw_V q1610 q1612 qs25 q51 q1613) ⟨rfl, hdX1_outlineWith⟩ rfl hl.1 rfl (Nat.le_of_ble_eq_true rfl) ⟨(Nat.le_of_ble_eq_true rfl), (Nat.le_of_ble_eq_true rfl)⟩ dX1_cornerX_4) (by omega) (by omega) (fun o9 H_ hp_ => ?_)
  obtain ⟨hOg, hF1⟩ := hp_
  have hG := hG.kept (hF1.mono (fun q _ (hq : q < w.2.2.2) => show q < _ from by omega))
  obtain ⟨xa, ya, hPo, hOo, hxa, hya, h24⟩ := id hOg
  obtain ⟨VX, hVX⟩ : ∃ VX, VX = (crn (G s) d).map fun d => cB w d.1 := ⟨_, rfl⟩
  obtain ⟨VY, hVY⟩ : ∃ VY, VY = (crn (G s) d).map fun d => cB w d.2.1 := ⟨_, rfl⟩
  rw [← hVX] at hxa
  rw [← hVY] at hya
  have hlx : VX.length = (crn (G s) d).length := by rw [hVX, List.length_map]
  have hly : VY.length = (crn (G s) d).length := by rw [hVY, List.length_map]
  have hnx := hxa.n
  obtain ⟨fsx_, hXo⟩ := hxa.o
  obtain ⟨fsy_, hYo⟩ := hya.o
  have h24e := h24 e (List.mem_of_getElem? hc)
  refine pb_getN C in_X15 hOo (ci := 13) rfl 0 (by decide) q1251 (fun _ h9 => h9) (v := .ref (xa)) rfl dX1_cornerX_7 ?_
  refine pb_iload_n C dX1_cornerX_10 rfl (lv_at hl 3 rfl) ?_
  refine pb_go_x (bc' := 3779 + lC 312 - (3779 + lC 312)) (bs' := 25127 + lS 312 - (25127 + lS 312)) (pb_runF (n := 1) (rest := []) C hG (x := ⟨"java/util/List", "get", "(I)Ljava/lang/Object;"⟩) (met_J2_get l xa _ VX hxa c (by omega)) hXo (ci := 15) rfl (by decide) q357 q360 q362 q54 q364 (by decide +kernel) rfl hl.1 rfl (Nat.le_of_ble_eq_true rfl) ⟨(Nat.le_of_ble_eq_true rfl), (Nat.le_of_ble_eq_true rfl)⟩ dX1_cornerX_11) (by omega) (by omega) ?_
  have hBi : Bx w H_ (nV VX c) ((e.1 : Nat) : Int) := Bx_cB hG h24e.1 (by rw [hVX]; exact nV_map hc)
  refine pb_cast C hBi (ci := 17) rfl q1568 dX1_cornerX_16 ?_
  refine pb_go_x (bc' := 3779 + lC 312 - (3779 + lC 312)) (bs' := 25127 + lS 312 - (25127 + lS 312)) (pb_runV (rest := []) C hG (met_J19_intValue l (nV VX c) ((e.1 : Nat) : Int) hBi) hBi (ci := 17) rfl (lw_V q1569 q1482 q1483 q84 q1484) ⟨rfl, hdJ19_intValue⟩ rfl hl.1 rfl (Nat.le_of_ble_eq_true rfl) ⟨(Nat.le_of_ble_eq_true rfl), (Nat.le_of_ble_eq_true rfl)⟩ dX1_cornerX_19) (by omega) (by omega) ?_
  exact pb_iret C dX1_cornerX_22 (⟨_, rfl, rfl, hF1⟩)

set_option maxHeartbeats 1000000 in
theorem met_X1_cornerY {w : pb_W} (l : Launch) {H0 : Heap} (b sl : Nat) (pv : Value) (V : List Nat) (P : Nat → Prop) (G : Nat → Nat → Nat) (hS0 : Sq w H0 P b sl pv V G) (s : Nat) (hs : s < 8) (q : Nat) (d : Nat × Nat × Nat) (hq : (outs (G s) 2500)[q]? = some d) (c : Nat) (e : Nat × Nat × Nat) (hc : (crn (G s) d)[c]? = some e) : pb_M w l yX1_cornerY cX1_cornerY 4 (some .int) 12 (3779 + lC 312) (25127 + lS 312) [.ref (b), .int (iZ (((s : Nat) : Int))), .int (iZ (((q : Nat) : Int))), .int (iZ (((c : Nat) : Int)))] H0 (pb_qi (fun z H1 => z = ((e.2.1 : Nat) : Int) ∧ pb_F (fun q => q < H0.size) H0 H1)) := by
  refine pb_of (by decide +kernel) (Nat.le_of_ble_eq_true rfl) ?_
  intro p_ e_ s_ m_ ar_ bl_ me_ co_ ls C hh hG hl
  have hl : lv_has ls 4 [(0, .ref (b)), (1, .int (iZ (((s : Nat) : Int)))), (2, .int (iZ (((q : Nat) : Int)))), (3, .int (iZ (((c : Nat) : Int))))] := hl
  have hzs := hG.1
  have hS := hS0.below
  have hFF : pb_F (fun q => q < H0.size) H0 H0 := pb_F.rf
  obtain ⟨hPb, hBo, hLr, hV8⟩ := id hS.1
  obtain ⟨hg, L, hR, hr⟩ := hS.2 s hs
  obtain ⟨fsr_, hRo⟩ := hR.o
  obtain ⟨hp1, hp2, hp3, hp4⟩ := rq_pre hg hr
  have hcl := get_lt hc
  refine pb_aload_n C dX1_cornerY_0 rfl (lv_at hl 0 rfl) ?_
  refine pb_iload_n C dX1_cornerY_1 rfl (lv_at hl 1 rfl) ?_
  refine pb_iload_n C dX1_cornerY_2 rfl (lv_at hl 2 rfl) ?_
  refine pb_iload_n C dX1_cornerY_3 rfl (lv_at hl 3 rfl) ?_
  refine pb_go_r (bc' := 3779 + lC 312 - (3779 + lC 312)) (bs' := 25127 + lS 312 - (25127 + lS 312)) (pb_runV (rest := []) C hG (met_X1_outlineWith l b sl pv V _ G hS s hs q d hq c e hc) hBo (ci := 0) rfl (lw_V q1610 q1612 qs25 q51 q1613) ⟨rfl, hdX1_outlineWith⟩ rfl hl.1 rfl (Nat.le_of_ble_eq_true rfl) ⟨(Nat.le_of_ble_eq_true rfl), (Nat.le_of_ble_eq_true rfl)⟩ dX1_cornerY_4) (by omega) (by omega) (fun o9 H_ hp_ => ?_)
  obtain ⟨hOg, hF1⟩ := hp_
  have hG := hG.kept (hF1.mono (fun q _ (hq : q < w.2.2.2) => show q < _ from by omega))
  obtain ⟨xa, ya, hPo, hOo, hxa, hya, h24⟩ := id hOg
  obtain ⟨VX, hVX⟩ : ∃ VX, VX = (crn (G s) d).map fun d => cB w d.1 := ⟨_, rfl⟩
  obtain ⟨VY, hVY⟩ : ∃ VY, VY = (crn (G s) d).map fun d => cB w d.2.1 := ⟨_, rfl⟩
  rw [← hVX] at hxa
  rw [← hVY] at hya
  have hlx : VX.length = (crn (G s) d).length := by rw [hVX, List.length_map]
  have hly : VY.length = (crn (G s) d).length := by rw [hVY, List.length_map]
  have hnx := hxa.n
  obtain ⟨fsx_, hXo⟩ := hxa.o
  obtain ⟨fsy_, hYo⟩ := hya.o
  have h24e := h24 e (List.mem_of_getElem? hc)
  refine pb_getN C in_X15 hOo (ci := 13) rfl 1 (by decide) q1253 (fun _ h9 => h9) (v := .ref (ya)) rfl dX1_cornerY_7 ?_
  refine pb_iload_n C dX1_cornerY_10 rfl (lv_at hl 3 rfl) ?_
  refine pb_go_x (bc' := 3779 + lC 312 - (3779 + lC 312)) (bs' := 25127 + lS 312 - (25127 + lS 312)) (pb_runF (n := 1) (rest := []) C hG (x := ⟨"java/util/List", "get", "(I)Ljava/lang/Object;"⟩) (met_J2_get l ya _ VY hya c (by omega)) hYo (ci := 15) rfl (by decide) q357 q360 q362 q54 q364 (by decide +kernel) rfl hl.1 rfl (Nat.le_of_ble_eq_true rfl) ⟨(Nat.le_of_ble_eq_true rfl), (Nat.le_of_ble_eq_true rfl)⟩ dX1_cornerY_11) (by omega) (by omega) ?_
  have hBi : Bx w H_ (nV VY c) ((e.2.1 : Nat) : Int) := Bx_cB hG h24e.2 (by rw [hVY]; exact nV_map hc)
  refine pb_cast C hBi (ci := 17) rfl q1568 dX1_cornerY_16 ?_
  refine pb_go_x (bc' := 3779 + lC 312 - (3779 + lC 312)) (bs' := 25127 + lS 312 - (25127 + lS 312)) (pb_runV (rest := []) C hG (met_J19_intValue l (nV VY c) ((e.2.1 : Nat) : Int) hBi) hBi (ci := 17) rfl (lw_V q1569 q1482 q1483 q84 q1484) ⟨rfl, hdJ19_intValue⟩ rfl hl.1 rfl (Nat.le_of_ble_eq_true rfl) ⟨(Nat.le_of_ble_eq_true rfl), (Nat.le_of_ble_eq_true rfl)⟩ dX1_cornerY_19) (by omega) (by omega) ?_
  exact pb_iret C dX1_cornerY_22 (⟨_, rfl, rfl, hF1⟩)

set_option maxHeartbeats 1000000 in
theorem met_X1_holeCount {w : pb_W} (l : Launch) {H0 : Heap} (b sl : Nat) (pv : Value) (V : List Nat) (P : Nat → Prop) (G : Nat → Nat → Nat) (hS0 : Sq w H0 P b sl pv V G) (s : Nat) (hs : s < 8) : pb_M w l yX1_holeCount cX1_holeCount 5 (some .int) 10 (3779 + lC 312 + 1) (25127 + lS 312 + 4) [.ref (b), .int (iZ (((s : Nat) : Int)))] H0 (pb_qi (fun z H1 => z = (((negL (G s)).length : Nat) : Int) ∧ pb_F (fun q => q < H0.size) H0 H1)) := by
  refine pb_of (by decide +kernel) (Nat.le_of_ble_eq_true rfl) ?_
  intro p_ e_ s_ m_ ar_ bl_ me_ co_ ls C hh hG hl
  have hl : lv_has ls 5 [(0, .ref (b)), (1, .int (iZ (((s : Nat) : Int))))] := hl
  have hzs := hG.1
  have hS := hS0.below
  have hFF : pb_F (fun q => q < H0.size) H0 H0 := pb_F.rf
  obtain ⟨hPb, hBo, hLr, hV8⟩ := id hS.1
  obtain ⟨hg, L, hR, hr⟩ := hS.2 s hs
  obtain ⟨fsr_, hRo⟩ := hR.o
  obtain ⟨hp1, hp2, hp3, hp4⟩ := rq_pre hg hr
  have L23 : ∀ (n_ : Nat) (k it ol z1 : Nat) (V9 : List Nat) (v : Int) (H : Heap), V9.length - k = n_ → (pb_G w s_ H) → (k ≤ V9.length) → (z1 ≤ it ∧ H0.size ≤ z1) → (It w H it ol k V9.length) → (Lr w H (fun q => q < z1) ol V9) → (OL w H (fun q => q < z1) (G s) V9 (outs (G s) 2500)) → (v = ((((outs (G s) 2500).take k).filter (fun d => decide (arA (G s) d < 0))).length : Int)) → (pb_F (fun q => q < H0.size) H0 H) → ∀ (ls : Array Slot), lv_has ls 5 [(2, .int (iZ (v))), (3, .ref (it))] → pb_V w.2.2.2 p_ l e_ (pb_rm 10 (3779 + lC 312 + 1) (25127 + lS 312 + 4)) s_ m_ ar_ bl_ me_ co_ H (0) (0) (pb_E w bl_ ar_ s_ (3779 + lC 312 + 1) (25127 + lS 312 + 4) (pb_qi (fun z H1 => z = (((negL (G s)).length : Nat) : Int) ∧ pb_F (fun q => q < H0.size) H0 H1))) (F0 m_ 23 ls []) := by
    intro n_
    induction n_ using Nat.strongRecOn with
    | _ n_ ih23 =>
    intro k it ol z1 V9 v H hm_ hG hk hit hI hLr9 hOL hv hFF ls hl
    obtain ⟨fsI_, hIo⟩ := hI.o
    have hn9 := hLr9.n
    have hV9 := hOL.1
    have hvr : 0 ≤ v ∧ v ≤ 2000 := by
      have h9 : (((outs (G s) 2500).take k).filter (fun d => decide (arA (G s) d < 0))).length ≤ ((outs (G s) 2500).take k).length := List.length_filter_le _ _
      rw [List.length_take] at h9
      omega
    refine pb_aload_n C dX1_holeCount_23 rfl (lv_at hl 1 rfl) ?_
    refine pb_go_x (bc' := 0) (bs' := 0) (pb_runF (n := 0) (rest := []) C hG (x := ⟨"java/util/Iterator", "hasNext", "()Z"⟩) (met_J15_hasNext l it ol k _ V9 hI hLr9 (by omega)) hIo (ci := 16) rfl (by decide) q1319 q552 q554 q76 q556 (by decide +kernel) rfl hl.1 rfl (Nat.le_of_ble_eq_true rfl) ⟨(Nat.le_of_ble_eq_true rfl), (Nat.le_of_ble_eq_true rfl)⟩ dX1_holeCount_24) (by omega) (by omega) ?_
    refine pb_ifB_eq C dX1_holeCount_29 (tgt := 62) (by decide) (fun c29_ => ?_) (fun c29_ => ?_)
    · have c29_ := of_decide_eq_false c29_
      refine pb_iload_n C dX1_holeCount_62 rfl (lv_at hl 0 rfl) ?_
      exact pb_iret C dX1_holeCount_63 (⟨_, rfl, by rw [hv, show k = (outs (G s) 2500).length from by omega, List.take_length]; rfl, hFF⟩)
    · have c29_ := of_decide_eq_true c29_
      refine pb_aload_n C dX1_holeCount_32 rfl (lv_at hl 1 rfl) ?_
      refine pb_go_r (bc' := 0) (bs' := 0) (pb_runF (n := 0) (rest := []) C hG (x := ⟨"java/util/Iterator", "next", "()Ljava/lang/Object;"⟩) (met_J15_next l it ol k _ V9 hI hLr9 (by omega) (fun h9 => absurd (show it < z1 from h9) (by omega)) (by omega)) hIo (ci := 16) rfl (by decide) q1321 q561 q563 q76 q565 (by decide +kernel) rfl hl.1 rfl (Nat.le_of_ble_eq_true rfl) ⟨(Nat.le_of_ble_eq_true rfl), (Nat.le_of_ble_eq_true rfl)⟩ dX1_holeCount_33) (by omega) (by omega) (fun b_ H3 hp_ => ?_)
      obtain ⟨rfl, hI, hF2⟩ := hp_
      have hG := hG.kept (hF2.mono (fun q _ (hq : q < w.2.2.2) => show q ≠ _ from by omega))
      have hFF := hFF.tr (hF2.mono (fun q _ (hq : q < H0.size) => show q ≠ _ from by omega))
      have hLr9 := hLr9.kept (hF2.mono (fun q _ (hq : q < z1) => show q ≠ _ from by omega))
      have hOL := hOL.kept (hF2.mono (fun q _ (hq : q < z1) => show q ≠ _ from by omega))
      obtain ⟨d, hd⟩ : ∃ d, (outs (G s) 2500)[k]? = some d := ⟨_, List.getElem?_eq_getElem (by omega)⟩
      have hlim := crn_lim hg (outs_lok 2500 d (List.mem_of_getElem? hd))
      obtain ⟨xa, ya, hPo, hOo, hxa, hya, h24⟩ := hOL.2 k d hd
      refine pb_cast C hOo (ci := 13) rfl q1322 dX1_holeCount_38 ?_
      refine pb_astore C dX1_holeCount_41 hl (by decide) rfl fun ls hl => ?_
      have hl : lv_has ls 5 [(4, .ref ((nV V9 k))), (2, .int (iZ (v))), (3, .ref (it))] := hl
      refine pb_iload_n C dX1_holeCount_43 rfl (lv_at hl 1 rfl) ?_
      refine pb_aload C dX1_holeCount_44 (lv_at hl 0 rfl) ?_
      refine pb_getN C in_X15 hOo (ci := 13) rfl 2 (by decide) q1255 (fun _ h9 => h9) (v := .int (iZ ((arA (G s) d)))) rfl dX1_holeCount_46 ?_
      refine pb_if_ge C dX1_holeCount_49 (x := (arA (G s) d)) (tgt := 56) (by decide) (by omega) (fun c49_ => ?_) (fun c49_ => ?_)
      · refine pb_ic C dX1_holeCount_56 ?_
        refine pb_iadd C dX1_holeCount_57 ?_
        refine pb_istore_n C dX1_holeCount_58 rfl hl (by decide) rfl fun ls hl => ?_
        have hl : lv_has ls 5 [(2, .int (iZ ((v + 0)))), (4, .ref ((nV V9 k))), (3, .ref (it))] := hl
        refine pb_goto C dX1_holeCount_59 (tgt := 23) (by decide) ?_
        exact pb_V.mono (by omega) (by omega) (ih23 _ (by omega) (k + 1) it ol z1 V9 (v + 0) H3 rfl hG (by omega) (by omega) hI hLr9 hOL (by rw [neg_step _ hd, if_neg (fun h9 => by have := of_decide_eq_true h9; omega), hv]) hFF ls (lv_sub hl [0, 2] rfl))
      · refine pb_ic C dX1_holeCount_52 ?_
        refine pb_goto C dX1_holeCount_53 (tgt := 57) (by decide) ?_
        refine pb_iadd C dX1_holeCount_57 ?_
        refine pb_istore_n C dX1_holeCount_58 rfl hl (by decide) rfl fun ls hl => ?_
        have hl : lv_has ls 5 [(2, .int (iZ ((v + 1)))), (4, .ref ((nV V9 k))), (3, .ref (it))] := hl
        refine pb_goto C dX1_holeCount_59 (tgt := 23) (by decide) ?_
        exact pb_V.mono (by omega) (by omega) (ih23 _ (by omega) (k + 1) it ol z1 V9 (v + 1) H3 rfl hG (by omega) (by omega) hI hLr9 hOL (by rw [neg_step _ hd, if_pos (decide_eq_true (show arA (G s) d < 0 from by omega)), hv]) hFF ls (lv_sub hl [0, 2] rfl))
  refine pb_ic C dX1_holeCount_0 ?_
  refine pb_istore_n C dX1_holeCount_1 rfl hl (by decide) rfl fun ls hl => ?_
  have hl : lv_has ls 5 [(2, .int (iZ (0))), (0, .ref (b)), (1, .int (iZ (((s : Nat) : Int))))] := hl
  refine pb_newE C in_X14 tyX14 tyX14_ok (ci := 12) rfl q1224 q1225 q86 (fs := [.null, .null, .null]) (by decide) (bc' := 3779 + lC 312 + 1 - 1) (bs' := 25127 + lS 312 + 4 - 3) (by omega) (by omega) dX1_holeCount_2 fun a1_ H1_ ha_ hn_ hN1_ => ?_
  have hs1_ : H1_.size = H0.size + 1 := hn_.1
  have hG := hG.kept (hn_.f.mono (fun _ _ _ => trivial))
  have hBo := hBo.kept (hn_.2 _ hBo.lt)
  have hS := hS.kept (hn_.f.mono (fun _ _ _ => trivial))
  have hR := hR.kept (hn_.f.mono (fun _ _ _ => trivial))
  obtain ⟨fsr_, hRo⟩ := hR.o
  have hFF := hFF.tr (hn_.f.mono (fun _ _ _ => trivial))
  obtain rfl : a1_ = H0.size := by omega
  skip
  have hN := hN1_
  refine pb_dup C dX1_holeCount_5 rfl ?_
  refine pb_aload_n C dX1_holeCount_6 rfl (lv_at hl 1 rfl) ?_
  refine pb_iload_n C dX1_holeCount_7 rfl (lv_at hl 2 rfl) ?_
  refine pb_go_x (bc' := 3779 + lC 312 + 1 - 1) (bs' := 25127 + lS 312 + 4 - 3) (pb_runV (rest := [.ref (H0.size), .ref (H0.size)]) C hG (met_X1_region l b sl pv V _ G hS s hs) hBo (ci := 0) rfl (lw_V q325 q327 qs4 q51 q328) ⟨rfl, hdX1_region⟩ rfl hl.1 rfl (Nat.le_of_ble_eq_true rfl) ⟨(Nat.le_of_ble_eq_true rfl), (Nat.le_of_ble_eq_true rfl)⟩ dX1_holeCount_8) (by omega) (by omega) ?_
  refine pb_go_v (bc' := 3779 + lC 312 + 1 - 1 - (28 + 3750 + lC 312)) (bs' := 25127 + lS 312 + 4 - 3 - (2624 + 22500 + lS 312)) (pb_runI (rest := [.ref (H0.size)]) C hG (met_X14_init l 0 H0.size (nV V s) (fun q => q < H0.size) L (by omega) hR (fun h9 => absurd (show H0.size < H0.size from h9) (Nat.lt_irrefl _)) hN hp3 (row_le hr.1)) q1226 q1227 q86 q1228 rfl hdX14_init rfl hl.1 rfl (Nat.le_of_ble_eq_true rfl) ⟨(Nat.le_of_ble_eq_true rfl), (Nat.le_of_ble_eq_true rfl)⟩ dX1_holeCount_11) (by omega) (by omega) (fun H_ hp_ => ?_)
  obtain ⟨g9, hge, hT, hF1⟩ := hp_
  rw [ofG_law hg hr] at hge
  subst hge
  obtain ⟨c9, u9, ol, V9, hPt, hTo, hLr9, hOL⟩ := hT
  have hG := hG.kept (hF1.mono (fun q _ (hq : q < w.2.2.2) => (⟨by omega, by omega⟩ : q < _ ∧ q ≠ _)))
  have hFF := hFF.tr (hF1.mono (fun q _ (hq : q < H0.size) => (⟨by omega, by omega⟩ : q < _ ∧ q ≠ _)))
  have hLr9 := hLr9.below
  have hOL : OL w H_ (fun q => q < H_.size) (G s) V9 (outs (G s) 2500) := hOL.mono (fun q h9 _ => h9)
  obtain ⟨fsl9_, hLo9⟩ := hLr9.o
  have hn9 := hLr9.n
  have hV9 := hOL.1
  refine pb_getN C in_X14 hTo (ci := 12) rfl 2 (by decide) q1308 (fun _ h9 => h9) (v := .ref (ol)) rfl dX1_holeCount_14 ?_
  refine pb_go_r (bc' := 3779 + lC 312 + 1 - 1 - (28 + 3750 + lC 312) - 1) (bs' := 25127 + lS 312 + 4 - 3 - (2624 + 22500 + lS 312) - 4) (pb_runF (n := 0) (rest := []) C hG (x := ⟨"java/util/List", "iterator", "()Ljava/util/Iterator;"⟩) (met_J2_iterator l ol _ V9 hLr9) hLo9 (ci := 15) rfl (by decide) q1317 q523 q525 q54 q527 (by decide +kernel) rfl hl.1 rfl (Nat.le_of_ble_eq_true rfl) ⟨(Nat.le_of_ble_eq_true rfl), (Nat.le_of_ble_eq_true rfl)⟩ dX1_holeCount_17) (by omega) (by omega) (fun it H2 hp_ => ?_)
  obtain ⟨hit, hI, hF2⟩ := hp_
  have hG := hG.kept (hF2.mono (fun _ _ _ => trivial))
  have hFF := hFF.tr (hF2.mono (fun _ _ _ => trivial))
  have hLr9 := hLr9.kept (hF2.mono (fun _ _ _ => trivial))
  have hOL := hOL.kept (hF2.mono (fun _ _ _ => trivial))
  have hs3 := hF1.1
  obtain ⟨z1, hz1⟩ : ∃ z1, z1 = H_.size := ⟨_, rfl⟩
  rw [← hz1] at hLr9 hOL hit
  refine pb_astore_n C dX1_holeCount_22 rfl hl (by decide) rfl fun ls hl => ?_
  have hl : lv_has ls 5 [(3, .ref (it)), (2, .int (iZ (0))), (0, .ref (b)), (1, .int (iZ (((s : Nat) : Int))))] := hl
  exact pb_V.mono (by omega) (by omega) (L23 _ 0 it ol z1 V9 0 H2 rfl hG (by omega) (by omega) hI hLr9 hOL rfl hFF ls (lv_sub hl [1, 0] rfl))

