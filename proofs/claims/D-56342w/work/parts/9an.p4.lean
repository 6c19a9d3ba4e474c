set_option maxRecDepth 100000
set_option maxHeartbeats 1000000 in
theorem met_X1_found {w : pb_W} (l : Launch) {H : Heap} (n : Nat) (hn : n < 2147483648) : pb_M w l yX1_found cX1_found 1 (some .int) 1 (0) (0) [.int (iZ (((n : Nat) : Int)))] H (pb_qx (.int (iZ ((n : Nat) : Int))) H) := by
  refine pb_of (by decide +kernel) (Nat.le_of_ble_eq_true rfl) ?_
  intro p_ e_ s_ m_ ar_ bl_ me_ co_ ls C hh hG hl
  have hl : lv_has ls 1 [(0, .int (iZ (((n : Nat) : Int))))] := hl
  refine pb_iload_n C dX1_found_0 rfl (lv_at hl 0 rfl) ?_
  refine pb_ic C dX1_found_1 ?_
  refine pb_icmp_eq C dX1_found_2 (x := ((n : Nat) : Int)) (y := (-1)) (tgt := 9) (by decide) (by omega) (by omega) (fun c2_ => ?_) (fun c2_ => ?_)
  · omega
  · refine pb_ic C dX1_found_5 ?_
    refine pb_goto C dX1_found_6 (tgt := 10) (by decide) ?_
    refine pb_go_n (bc' := 0) (bs' := 0) (pb_runS (rest := []) C hG (met_X1_checkElement l) (lw_S q1082 q1083 q51 q1084) hdX1_checkElement rfl hl.1 rfl (Nat.le_of_ble_eq_true rfl) ⟨(Nat.le_of_ble_eq_true rfl), (Nat.le_of_ble_eq_true rfl)⟩ dX1_found_10) (by omega) (by omega) ?_
    refine pb_iload_n C dX1_found_13 rfl (lv_at hl 0 rfl) ?_
    exact pb_iret C dX1_found_14 (⟨rfl, rfl⟩)

set_option maxHeartbeats 1000000 in
theorem met_X1_checkedCells {w : pb_W} (l : Launch) {H0 : Heap} (b sl : Nat) (pv : Value) (V : List Nat) (P : Nat → Prop) (G : Nat → Nat → Nat) (hS0 : Sq w H0 P b sl pv V G) (s : Nat) (hs : s < 8) (x0 y0 x1 y1 : Nat) (hx0 : x0 < 24) (hy0 : y0 < 24) (hx1 : x1 < 24) (hy1 : y1 < 24) (h0 : gc (G s) ((x0 : Nat) : Int) ((y0 : Nat) : Int) = true) (h1 : gc (G s) ((x1 : Nat) : Int) ((y1 : Nat) : Int) = true) : pb_M w l yX1_checkedCells cX1_checkedCells 7 (some (.object "PolygonBoard$Cells")) 5 (28) (129) [.ref (b), .int (iZ (((s : Nat) : Int))), .int (iZ (((x0 : Nat) : Int))), .int (iZ (((y0 : Nat) : Int))), .int (iZ (((x1 : Nat) : Int))), .int (iZ (((y1 : Nat) : Int)))] H0 (pb_qr (fun c H1 => ∃ z r, H0.size ≤ z ∧ Cb w H1 z c r (G s) ∧ pb_F (fun q => q < H0.size) H0 H1)) := by
  refine pb_of (by decide +kernel) (Nat.le_of_ble_eq_true rfl) ?_
  intro p_ e_ s_ m_ ar_ bl_ me_ co_ ls C hh hG hl
  have hl : lv_has ls 7 [(0, .ref (b)), (1, .int (iZ (((s : Nat) : Int)))), (2, .int (iZ (((x0 : Nat) : Int)))), (3, .int (iZ (((y0 : Nat) : Int)))), (4, .int (iZ (((x1 : Nat) : Int)))), (5, .int (iZ (((y1 : Nat) : Int))))] := hl
  have hzs := hG.1
  have hS := hS0.below
  have hFF : pb_F (fun q => q < H0.size) H0 H0 := pb_F.rf
  obtain ⟨hPb, hBo, hLr, hV8⟩ := id hS.1
  obtain ⟨hg, L, hR, hr⟩ := hS.2 s hs
  obtain ⟨fsr_, hRo⟩ := hR.o
  obtain ⟨hp1, hp2, hp3, hp4⟩ := rq_pre hg hr
  have hR0 := hR
  refine pb_aload_n C dX1_checkedCells_0 rfl (lv_at hl 0 rfl) ?_
  refine pb_iload_n C dX1_checkedCells_1 rfl (lv_at hl 1 rfl) ?_
  refine pb_go_x (bc' := 28) (bs' := 129) (pb_runV (rest := []) C hG (met_X1_region l b sl pv V _ G hS s hs) hBo (ci := 0) rfl (lw_V q325 q327 qs4 q51 q328) ⟨rfl, hdX1_region⟩ rfl hl.1 rfl (Nat.le_of_ble_eq_true rfl) ⟨(Nat.le_of_ble_eq_true rfl), (Nat.le_of_ble_eq_true rfl)⟩ dX1_checkedCells_2) (by omega) (by omega) ?_
  refine pb_astore C dX1_checkedCells_5 hl (by decide) rfl fun ls hl => ?_
  have hl : lv_has ls 7 [(6, .ref ((nV V s))), (0, .ref (b)), (1, .int (iZ (((s : Nat) : Int)))), (2, .int (iZ (((x0 : Nat) : Int)))), (3, .int (iZ (((y0 : Nat) : Int)))), (4, .int (iZ (((x1 : Nat) : Int)))), (5, .int (iZ (((y1 : Nat) : Int))))] := hl
  refine pb_iload_n C dX1_checkedCells_7 rfl (lv_at hl 3 rfl) ?_
  refine pb_iload_n C dX1_checkedCells_8 rfl (lv_at hl 4 rfl) ?_
  refine pb_go_x (bc' := 28) (bs' := 129) (pb_runS (rest := []) C hG (met_X1_isCell l ((x0 : Nat) : Int) ((y0 : Nat) : Int) (by omega) (by omega)) (lw_S q1050 q1038 q51 q1039) hdX1_isCell rfl hl.1 rfl (Nat.le_of_ble_eq_true rfl) ⟨(Nat.le_of_ble_eq_true rfl), (Nat.le_of_ble_eq_true rfl)⟩ dX1_checkedCells_9) (by omega) (by omega) ?_
  refine pb_eq (g2 := F0 m_ 12 ls [.int (iZ (1))]) (congrArg (fun z9 => F0 m_ 12 ls [.int (iZ z9)]) (show (bI ((decide (0 ≤ ((x0 : Nat) : Int) ∧ ((x0 : Nat) : Int) ≤ 23) && decide (0 ≤ ((y0 : Nat) : Int) ∧ ((y0 : Nat) : Int) ≤ 23)))) = 1 from (bI_t (by rw [decide_eq_true (show 0 ≤ ((x0 : Nat) : Int) ∧ ((x0 : Nat) : Int) ≤ 23 from by omega), decide_eq_true (show 0 ≤ ((y0 : Nat) : Int) ∧ ((y0 : Nat) : Int) ≤ 23 from by omega)]; rfl)))) ?_
  refine pb_if_eq C dX1_checkedCells_12 (x := 1) (tgt := 29) (by decide) (by omega) (fun c12_ => ?_) (fun c12_ => ?_)
  · exact absurd c12_ (by decide)
  · refine pb_iload C dX1_checkedCells_15 (lv_at hl 5 rfl) ?_
    refine pb_iload C dX1_checkedCells_17 (lv_at hl 6 rfl) ?_
    refine pb_go_x (bc' := 28) (bs' := 129) (pb_runS (rest := []) C hG (met_X1_isCell l ((x1 : Nat) : Int) ((y1 : Nat) : Int) (by omega) (by omega)) (lw_S q1050 q1038 q51 q1039) hdX1_isCell rfl hl.1 rfl (Nat.le_of_ble_eq_true rfl) ⟨(Nat.le_of_ble_eq_true rfl), (Nat.le_of_ble_eq_true rfl)⟩ dX1_checkedCells_19) (by omega) (by omega) ?_
    refine pb_eq (g2 := F0 m_ 22 ls [.int (iZ (1))]) (congrArg (fun z9 => F0 m_ 22 ls [.int (iZ z9)]) (show (bI ((decide (0 ≤ ((x1 : Nat) : Int) ∧ ((x1 : Nat) : Int) ≤ 23) && decide (0 ≤ ((y1 : Nat) : Int) ∧ ((y1 : Nat) : Int) ≤ 23)))) = 1 from (bI_t (by rw [decide_eq_true (show 0 ≤ ((x1 : Nat) : Int) ∧ ((x1 : Nat) : Int) ≤ 23 from by omega), decide_eq_true (show 0 ≤ ((y1 : Nat) : Int) ∧ ((y1 : Nat) : Int) ≤ 23 from by omega)]; rfl)))) ?_
    refine pb_if_eq C dX1_checkedCells_22 (x := 1) (tgt := 29) (by decide) (by omega) (fun c22_ => ?_) (fun c22_ => ?_)
    · exact absurd c22_ (by decide)
    · refine pb_ic C dX1_checkedCells_25 ?_
      refine pb_goto C dX1_checkedCells_26 (tgt := 30) (by decide) ?_
      refine pb_go_n (bc' := 28) (bs' := 129) (pb_runS (rest := []) C hG (met_X1_checkArgument l) (lw_S q381 q382 q51 q383) hdX1_checkArgument rfl hl.1 rfl (Nat.le_of_ble_eq_true rfl) ⟨(Nat.le_of_ble_eq_true rfl), (Nat.le_of_ble_eq_true rfl)⟩ dX1_checkedCells_30) (by omega) (by omega) ?_
      refine pb_aload C dX1_checkedCells_33 (lv_at hl 0 rfl) ?_
      refine pb_iload_n C dX1_checkedCells_35 rfl (lv_at hl 3 rfl) ?_
      refine pb_iload_n C dX1_checkedCells_36 rfl (lv_at hl 4 rfl) ?_
      refine pb_go_i (bc' := 27) (bs' := 125) (pb_runV (rest := []) C hG (met_X2_contains l (nV V s) _ L hR ((x0 : Nat) : Int) ((y0 : Nat) : Int) (by omega) (by omega)) hRo (ci := 1) rfl (lw_V q1108 q1109 q1110 q55 q1111) ⟨rfl, hdX2_contains⟩ rfl hl.1 rfl (Nat.le_of_ble_eq_true rfl) ⟨(Nat.le_of_ble_eq_true rfl), (Nat.le_of_ble_eq_true rfl)⟩ dX1_checkedCells_37) (by omega) (by omega) (fun z_ H1 hp_ => ?_)
      obtain ⟨rfl, hF1⟩ := hp_
      have hsx0 := hF1.1
      have hG := hG.kept (hF1.mono (fun q _ (hq : q < w.2.2.2) => show q < _ from by omega))
      have hFF := hFF.tr (hF1.mono (fun q _ (hq : q < H0.size) => show q < _ from by omega))
      have hR := hR0.kept hFF
      obtain ⟨fsr_, hRo⟩ := hR.o
      refine pb_eq (g2 := F0 m_ 40 ls [.int (iZ (1))]) (congrArg (fun z9 => F0 m_ 40 ls [.int (iZ z9)]) (show (bI ((inE (rowL L ((y0 : Nat) : Int)) ((x0 : Nat) : Int) ((rowL L ((y0 : Nat) : Int)).length / 2)))) = 1 from (bI_t ((hr.2 _ _).trans h0)))) ?_
      refine pb_if_eq C dX1_checkedCells_40 (x := 1) (tgt := 59) (by decide) (by omega) (fun c40_ => ?_) (fun c40_ => ?_)
      · exact absurd c40_ (by decide)
      · refine pb_aload C dX1_checkedCells_43 (lv_at hl 0 rfl) ?_
        refine pb_iload C dX1_checkedCells_45 (lv_at hl 5 rfl) ?_
        refine pb_iload C dX1_checkedCells_47 (lv_at hl 6 rfl) ?_
        refine pb_go_i (bc' := 26) (bs' := 121) (pb_runV (rest := []) C hG (met_X2_contains l (nV V s) _ L hR ((x1 : Nat) : Int) ((y1 : Nat) : Int) (by omega) (by omega)) hRo (ci := 1) rfl (lw_V q1108 q1109 q1110 q55 q1111) ⟨rfl, hdX2_contains⟩ rfl hl.1 rfl (Nat.le_of_ble_eq_true rfl) ⟨(Nat.le_of_ble_eq_true rfl), (Nat.le_of_ble_eq_true rfl)⟩ dX1_checkedCells_49) (by omega) (by omega) (fun z_ H2 hp_ => ?_)
        obtain ⟨rfl, hF1⟩ := hp_
        have hsx1 := hF1.1
        have hG := hG.kept (hF1.mono (fun q _ (hq : q < w.2.2.2) => show q < _ from by omega))
        have hFF := hFF.tr (hF1.mono (fun q _ (hq : q < H0.size) => show q < _ from by omega))
        have hR := hR0.kept hFF
        obtain ⟨fsr_, hRo⟩ := hR.o
        refine pb_eq (g2 := F0 m_ 52 ls [.int (iZ (1))]) (congrArg (fun z9 => F0 m_ 52 ls [.int (iZ z9)]) (show (bI ((inE (rowL L ((y1 : Nat) : Int)) ((x1 : Nat) : Int) ((rowL L ((y1 : Nat) : Int)).length / 2)))) = 1 from (bI_t ((hr.2 _ _).trans h1)))) ?_
        refine pb_if_eq C dX1_checkedCells_52 (x := 1) (tgt := 59) (by decide) (by omega) (fun c52_ => ?_) (fun c52_ => ?_)
        · exact absurd c52_ (by decide)
        · refine pb_ic C dX1_checkedCells_55 ?_
          refine pb_goto C dX1_checkedCells_56 (tgt := 60) (by decide) ?_
          refine pb_go_n (bc' := 26) (bs' := 121) (pb_runS (rest := []) C hG (met_X1_checkElement l) (lw_S q1082 q1083 q51 q1084) hdX1_checkElement rfl hl.1 rfl (Nat.le_of_ble_eq_true rfl) ⟨(Nat.le_of_ble_eq_true rfl), (Nat.le_of_ble_eq_true rfl)⟩ dX1_checkedCells_60) (by omega) (by omega) ?_
          refine pb_aload C dX1_checkedCells_63 (lv_at hl 0 rfl) ?_
          refine pb_go_r (bc' := 0) (bs' := 0) (pb_runS (rest := []) C hG (met_X12_of l (nV V s) _ L hR hp3 (row_le hr.1)) (lw_S q971 q972 q82 q973) hdX12_of rfl hl.1 rfl (Nat.le_of_ble_eq_true rfl) ⟨(Nat.le_of_ble_eq_true rfl), (Nat.le_of_ble_eq_true rfl)⟩ dX1_checkedCells_65) (by omega) (by omega) (fun c H3 hp_ => ?_)
          obtain ⟨hC, hF1⟩ := hp_
          rw [ofG_law hg hr] at hC
          have hFF := hFF.tr (hF1.mono (fun q _ (hq : q < H0.size) => show q < _ from by omega))
          exact pb_aret C (Or.inl ⟨_, rfl⟩) dX1_checkedCells_68 (Or.inr ⟨_, rfl⟩) (⟨_, rfl, _, _, by omega, hC, hFF⟩)

set_option maxHeartbeats 1000000 in
theorem met_X1_stepsByRows {w : pb_W} (l : Launch) {H0 : Heap} (b sl : Nat) (pv : Value) (V : List Nat) (P : Nat → Prop) (G : Nat → Nat → Nat) (hS0 : Sq w H0 P b sl pv V G) (s : Nat) (hs : s < 8) (x0 y0 x1 y1 : Nat) (hx0 : x0 < 24) (hy0 : y0 < 24) (hx1 : x1 < 24) (hy1 : y1 < 24) (h0 : gc (G s) ((x0 : Nat) : Int) ((y0 : Nat) : Int) = true) (h1 : gc (G s) ((x1 : Nat) : Int) ((y1 : Nat) : Int) = true) (hway : ∃ m, lv (G s) (24 * y0 + x0) m (24 * y1 + x1)) : pb_M w l yX1_stepsByRows cX1_stepsByRows 10 (some .int) 6 (607) (14002) [.ref (b), .int (iZ (((s : Nat) : Int))), .int (iZ (((x0 : Nat) : Int))), .int (iZ (((y0 : Nat) : Int))), .int (iZ (((x1 : Nat) : Int))), .int (iZ (((y1 : Nat) : Int)))] H0 (pb_qi (fun z H1 => (∃ n : Nat, z = ((n : Nat) : Int) ∧ n ≤ 2400 ∧ dst (G s) (24 * y0 + x0) n (24 * y1 + x1)) ∧ pb_F (fun q => q < H0.size) H0 H1)) := by
  refine pb_of (by decide +kernel) (Nat.le_of_ble_eq_true rfl) ?_
  intro p_ e_ s_ m_ ar_ bl_ me_ co_ ls C hh hG hl
  have hl : lv_has ls 10 [(0, .ref (b)), (1, .int (iZ (((s : Nat) : Int)))), (2, .int (iZ (((x0 : Nat) : Int)))), (3, .int (iZ (((y0 : Nat) : Int)))), (4, .int (iZ (((x1 : Nat) : Int)))), (5, .int (iZ (((y1 : Nat) : Int))))] := hl
  have hzs := hG.1
  have hS := hS0.below
  have hFF : pb_F (fun q => q < H0.size) H0 H0 := pb_F.rf
  obtain ⟨hPb, hBo, hLr, hV8⟩ := id hS.1
  obtain ⟨hg, L, hR, hr⟩ := hS.2 s hs
  obtain ⟨fsr_, hRo⟩ := hR.o
  obtain ⟨hp1, hp2, hp3, hp4⟩ := rq_pre hg hr
  have hgG := hg
  have hpos : 0 ≤ popG (sdG x0 y0) := Nat.zero_le _
  have L26 : ∀ (n_ : Nat) (n c9 c7 z7 : Nat) (hgr : Bool) (H : Heap), 577 - n = n_ → (pb_G w s_ H) → (n ≤ 577) → (H0.size ≤ z7) → (Cq w H (fun q => q < z7) c9 (G s)) → (Cb w H z7 c7 (z7 + 1) (tpI (G s) false (sdG x0 y0) n)) → (∀ m, m < n → (m + 1 < n ∨ hgr = true) → spB (tpI (G s) false (sdG x0 y0) m) (G s) false 24 = true) → (hgr = false → 0 < n ∧ spB (tpI (G s) false (sdG x0 y0) (n - 1)) (G s) false 24 = false) → (∀ m, m < n → ¬ ((tpI (G s) false (sdG x0 y0) m) y1).testBit x1 = true) → (pb_F (fun q => q < H0.size) H0 H) → ∀ (ls : Array Slot), lv_has ls 10 [(4, .int (iZ (((x1 : Nat) : Int)))), (5, .int (iZ (((y1 : Nat) : Int)))), (6, .ref (c9)), (7, .ref (c7)), (8, .int (iZ (((n : Nat) : Int)))), (9, .int (iZ ((bI (hgr)))))] → pb_V w.2.2.2 p_ l e_ (pb_rm 6 (607) (14002)) s_ m_ ar_ bl_ me_ co_ H (577 - n) ((577 - n) * 24) (pb_E w bl_ ar_ s_ (607) (14002) (pb_qi (fun z H1 => (∃ n : Nat, z = ((n : Nat) : Int) ∧ n ≤ 2400 ∧ dst (G s) (24 * y0 + x0) n (24 * y1 + x1)) ∧ pb_F (fun q => q < H0.size) H0 H1))) (F0 m_ 26 ls []) := by
    intro n_
    induction n_ using Nat.strongRecOn with
    | _ n_ ih26 =>
    intro n c9 c7 z7 hgr H hm_ hG hn hz7 hQ9 hC7 hm hla hno hFF ls hl
    obtain ⟨fs7_, hC7o⟩ := hC7.q.o
    refine pb_iload C dX1_stepsByRows_26 (lv_at hl 5 rfl) ?_
    refine pb_ifB_eq C dX1_stepsByRows_28 (tgt := 59) (by decide) (fun c28_ => ?_) (fun c28_ => ?_)
    · refine pb_aload C dX1_stepsByRows_59 (lv_at hl 3 rfl) ?_
      refine pb_iload C dX1_stepsByRows_61 (lv_at hl 0 rfl) ?_
      refine pb_iload C dX1_stepsByRows_63 (lv_at hl 1 rfl) ?_
      refine pb_go_x (bc' := 577 - n) (bs' := (577 - n) * 24) (pb_runV (rest := []) C hG (met_X12_contains l c7 _ (tpI (G s) false (sdG x0 y0) n) hC7.q ((x1 : Nat) : Int) ((y1 : Nat) : Int) (by omega) (by omega)) hC7o (ci := 11) rfl (lw_V q1572 q1034 q1035 q82 q1036) ⟨rfl, hdX12_contains⟩ rfl hl.1 rfl (Nat.le_of_ble_eq_true rfl) ⟨(Nat.le_of_ble_eq_true rfl), (Nat.le_of_ble_eq_true rfl)⟩ dX1_stepsByRows_65) (by omega) (by omega) ?_
      refine pb_ifB_eq C dX1_stepsByRows_68 (tgt := 76) (by decide) (fun c68_ => ?_) (fun c68_ => ?_)
      · rw [gcI_nat _ hx1 hy1] at c68_
        obtain ⟨m9, hm9⟩ := hway
        obtain ⟨k1, k2⟩ := hla c28_
        exact absurd hm9 (row_none hgG hx0 hy0 hx1 hy1 (hno (n - 1) (by omega)) k2 m9)
      · rw [gcI_nat _ hx1 hy1] at c68_
        refine pb_iload C dX1_stepsByRows_71 (lv_at hl 4 rfl) ?_
        refine pb_goto C dX1_stepsByRows_73 (tgt := 77) (by decide) ?_
        refine pb_go_x (bc' := 577 - n) (bs' := (577 - n) * 24) (pb_runS (rest := []) C hG (met_X1_found l n (by omega)) (lw_S q1573 q1574 q51 q1575) hdX1_found rfl hl.1 rfl (Nat.le_of_ble_eq_true rfl) ⟨(Nat.le_of_ble_eq_true rfl), (Nat.le_of_ble_eq_true rfl)⟩ dX1_stepsByRows_77) (by omega) (by omega) ?_
        exact pb_iret C dX1_stepsByRows_80 (⟨_, rfl, ⟨n, rfl, by omega, row_found hgG hx0 hy0 hx1 hy1 c68_ hno⟩, hFF⟩)
    · refine pb_aload C dX1_stepsByRows_31 (lv_at hl 3 rfl) ?_
      refine pb_iload C dX1_stepsByRows_33 (lv_at hl 0 rfl) ?_
      refine pb_iload C dX1_stepsByRows_35 (lv_at hl 1 rfl) ?_
      refine pb_go_x (bc' := 577 - n) (bs' := (577 - n) * 24) (pb_runV (rest := []) C hG (met_X12_contains l c7 _ (tpI (G s) false (sdG x0 y0) n) hC7.q ((x1 : Nat) : Int) ((y1 : Nat) : Int) (by omega) (by omega)) hC7o (ci := 11) rfl (lw_V q1572 q1034 q1035 q82 q1036) ⟨rfl, hdX12_contains⟩ rfl hl.1 rfl (Nat.le_of_ble_eq_true rfl) ⟨(Nat.le_of_ble_eq_true rfl), (Nat.le_of_ble_eq_true rfl)⟩ dX1_stepsByRows_37) (by omega) (by omega) ?_
      refine pb_ifB_ne C dX1_stepsByRows_40 (tgt := 59) (by decide) (fun c40_ => ?_) (fun c40_ => ?_)
      · refine pb_aload C dX1_stepsByRows_59 (lv_at hl 3 rfl) ?_
        refine pb_iload C dX1_stepsByRows_61 (lv_at hl 0 rfl) ?_
        refine pb_iload C dX1_stepsByRows_63 (lv_at hl 1 rfl) ?_
        refine pb_go_x (bc' := 577 - n) (bs' := (577 - n) * 24) (pb_runV (rest := []) C hG (met_X12_contains l c7 _ (tpI (G s) false (sdG x0 y0) n) hC7.q ((x1 : Nat) : Int) ((y1 : Nat) : Int) (by omega) (by omega)) hC7o (ci := 11) rfl (lw_V q1572 q1034 q1035 q82 q1036) ⟨rfl, hdX12_contains⟩ rfl hl.1 rfl (Nat.le_of_ble_eq_true rfl) ⟨(Nat.le_of_ble_eq_true rfl), (Nat.le_of_ble_eq_true rfl)⟩ dX1_stepsByRows_65) (by omega) (by omega) ?_
        refine pb_ifB_eq C dX1_stepsByRows_68 (tgt := 76) (by decide) (fun c68_ => ?_) (fun c68_ => ?_)
        · rw [c40_] at c68_
          cases c68_
        · rw [gcI_nat _ hx1 hy1] at c68_
          refine pb_iload C dX1_stepsByRows_71 (lv_at hl 4 rfl) ?_
          refine pb_goto C dX1_stepsByRows_73 (tgt := 77) (by decide) ?_
          refine pb_go_x (bc' := 577 - n) (bs' := (577 - n) * 24) (pb_runS (rest := []) C hG (met_X1_found l n (by omega)) (lw_S q1573 q1574 q51 q1575) hdX1_found rfl hl.1 rfl (Nat.le_of_ble_eq_true rfl) ⟨(Nat.le_of_ble_eq_true rfl), (Nat.le_of_ble_eq_true rfl)⟩ dX1_stepsByRows_77) (by omega) (by omega) ?_
          exact pb_iret C dX1_stepsByRows_80 (⟨_, rfl, ⟨n, rfl, by omega, row_found hgG hx0 hy0 hx1 hy1 c68_ hno⟩, hFF⟩)
      · rw [gcI_nat _ hx1 hy1] at c40_
        have hnt : ¬ ((tpI (G s) false (sdG x0 y0) n) y1).testBit x1 = true := by rw [c40_]; exact Bool.false_ne_true
        have hall : ∀ m, m < n → spB (tpI (G s) false (sdG x0 y0) m) (G s) false 24 = true := fun m h9 => hm m h9 (Or.inr c28_)
        have hpp := tp_pop (co := false) hgG (sd_ok hx0 hy0) hall
        have hpl := popG_le (tpI (G s) false (sdG x0 y0) n)
        have hpp1 := hpos
        refine pb_aload C dX1_stepsByRows_43 (lv_at hl 3 rfl) ?_
        refine pb_aload C dX1_stepsByRows_45 (lv_at hl 2 rfl) ?_
        refine pb_ic C dX1_stepsByRows_47 ?_
        refine pb_go_i (bc' := 577 - n - 1) (bs' := (577 - n) * 24 - 24) (pb_runV (rest := []) C hG (met_X12_spread l z7 c7 (z7 + 1) c9 _ (tpI (G s) false (sdG x0 y0) n) (G s) false hC7 (by omega) hQ9 (fun h9 => absurd (show z7 + 1 < z7 from h9) (by omega))) hC7o (ci := 11) rfl (lw_V q1584 q1009 q1010 q82 q1011) ⟨rfl, hdX12_spread⟩ rfl hl.1 rfl (Nat.le_of_ble_eq_true rfl) ⟨(Nat.le_of_ble_eq_true rfl), (Nat.le_of_ble_eq_true rfl)⟩ dX1_stepsByRows_48) (by omega) (by omega) (fun z_ H3 hp_ => ?_)
        obtain ⟨rfl, hC7, hF3⟩ := hp_
        have hG := hG.kept (hF3.mono (fun q _ (hq : q < w.2.2.2) => show q ≠ _ from by omega))
        have hFF := hFF.tr (hF3.mono (fun q _ (hq : q < H0.size) => show q ≠ _ from by omega))
        have hQ9 := hQ9.kept (hF3.mono (fun q _ (hq : q < z7) => show q ≠ _ from by omega))
        refine pb_istore C dX1_stepsByRows_51 hl (by decide) rfl fun ls hl => ?_
        have hl : lv_has ls 10 [(9, .int (iZ ((bI ((spB (tpI (G s) false (sdG x0 y0) n) (G s) false 24)))))), (4, .int (iZ (((x1 : Nat) : Int)))), (5, .int (iZ (((y1 : Nat) : Int)))), (6, .ref (c9)), (7, .ref (c7)), (8, .int (iZ (((n : Nat) : Int))))] := hl
        refine pb_iinc C dX1_stepsByRows_53 hl (j := 5) (x := (((n : Nat) : Int))) rfl (by decide) rfl fun ls hl => ?_
        have hl : lv_has ls 10 [(8, .int (iZ ((((n + 1) : Nat) : Int)))), (9, .int (iZ ((bI ((spB (tpI (G s) false (sdG x0 y0) n) (G s) false 24)))))), (4, .int (iZ (((x1 : Nat) : Int)))), (5, .int (iZ (((y1 : Nat) : Int)))), (6, .ref (c9)), (7, .ref (c7))] := hl
        refine pb_goto C dX1_stepsByRows_56 (tgt := 26) (by decide) ?_
        exact pb_V.mono (by omega) (by omega) (ih26 _ (by omega) (n + 1) c9 c7 z7 (spB (tpI (G s) false (sdG x0 y0) n) (G s) false 24) H3 rfl hG (by omega) (by omega) hQ9 hC7 (fun m h9 h8 => by rcases Nat.lt_or_ge m n with h7 | h7; exact hall m h7; rw [show m = n from by omega]; rcases h8 with h8 | h8; omega; exact h8) (fun h9 => ⟨by omega, h9⟩) (fun m h9 => by rcases Nat.lt_or_ge m n with h7 | h7; exact hno m h7; rw [show m = n from by omega]; exact hnt) hFF ls (lv_sub hl [2, 3, 4, 5, 0, 1] rfl))
  refine pb_aload_n C dX1_stepsByRows_0 rfl (lv_at hl 0 rfl) ?_
  refine pb_iload_n C dX1_stepsByRows_1 rfl (lv_at hl 1 rfl) ?_
  refine pb_iload_n C dX1_stepsByRows_2 rfl (lv_at hl 2 rfl) ?_
  refine pb_iload_n C dX1_stepsByRows_3 rfl (lv_at hl 3 rfl) ?_
  refine pb_iload C dX1_stepsByRows_4 (lv_at hl 4 rfl) ?_
  refine pb_iload C dX1_stepsByRows_6 (lv_at hl 5 rfl) ?_
  refine pb_go_r (bc' := 579) (bs' := 13873) (pb_runV (rest := []) C hG (met_X1_checkedCells l b sl pv V _ G hS s hs x0 y0 x1 y1 hx0 hy0 hx1 hy1 h0 h1) hBo (ci := 0) rfl (lw_V q1548 q1550 qs23 q51 q1551) ⟨rfl, hdX1_checkedCells⟩ rfl hl.1 rfl (Nat.le_of_ble_eq_true rfl) ⟨(Nat.le_of_ble_eq_true rfl), (Nat.le_of_ble_eq_true rfl)⟩ dX1_stepsByRows_8) (by omega) (by omega) (fun c9 H1 hp_ => ?_)
  obtain ⟨z9, r9, hz9, hC9, hF1⟩ := hp_
  have hs1 := hF1.1
  have hG := hG.kept (hF1.mono (fun q _ (hq : q < w.2.2.2) => show q < _ from by omega))
  have hFF := hFF.tr hF1
  have hcz := hC9.1
  have hclt := hC9.2.2.1.lt
  have hrlt := hC9.2.2.2.1.lt
  have hQ9 : Cq w H1 (fun q => q < H1.size) c9 (G s) := hC9.q.mono (fun q h9 _ => h9)
  refine pb_astore C dX1_stepsByRows_11 hl (by decide) rfl fun ls hl => ?_
  have hl : lv_has ls 10 [(6, .ref (c9)), (0, .ref (b)), (1, .int (iZ (((s : Nat) : Int)))), (2, .int (iZ (((x0 : Nat) : Int)))), (3, .int (iZ (((y0 : Nat) : Int)))), (4, .int (iZ (((x1 : Nat) : Int)))), (5, .int (iZ (((y1 : Nat) : Int))))] := hl
  refine pb_iload_n C dX1_stepsByRows_13 rfl (lv_at hl 3 rfl) ?_
  refine pb_iload_n C dX1_stepsByRows_14 rfl (lv_at hl 4 rfl) ?_
  refine pb_go_r (bc' := 577) (bs' := 13848) (pb_runS (rest := []) C hG (met_X12_at l x0 y0 hx0 hy0) (lw_S q1583 q1006 q82 q1007) hdX12_at rfl hl.1 rfl (Nat.le_of_ble_eq_true rfl) ⟨(Nat.le_of_ble_eq_true rfl), (Nat.le_of_ble_eq_true rfl)⟩ dX1_stepsByRows_15) (by omega) (by omega) (fun c7 H2 hp_ => ?_)
  obtain ⟨hC7, hF2⟩ := hp_
  have hs2 := hF2.1
  have hG := hG.kept (hF2.mono (fun q _ (hq : q < w.2.2.2) => show q < _ from by omega))
  have hFF := hFF.tr (hF2.mono (fun q _ (hq : q < H0.size) => show q < _ from by omega))
  have hQ9 := hQ9.kept hF2
  have hC7 : Cb w H2 H1.size c7 (H1.size + 1) (tpI (G s) false (sdG x0 y0) 0) := hC7
  obtain ⟨z7, hz7⟩ : ∃ z, z = H1.size := ⟨_, rfl⟩
  rw [← hz7] at hQ9 hC7
  refine pb_astore C dX1_stepsByRows_18 hl (by decide) rfl fun ls hl => ?_
  have hl : lv_has ls 10 [(7, .ref (c7)), (6, .ref (c9)), (0, .ref (b)), (1, .int (iZ (((s : Nat) : Int)))), (2, .int (iZ (((x0 : Nat) : Int)))), (3, .int (iZ (((y0 : Nat) : Int)))), (4, .int (iZ (((x1 : Nat) : Int)))), (5, .int (iZ (((y1 : Nat) : Int))))] := hl
  refine pb_ic C dX1_stepsByRows_20 ?_
  refine pb_istore C dX1_stepsByRows_21 hl (by decide) rfl fun ls hl => ?_
  have hl : lv_has ls 10 [(8, .int (iZ (0))), (7, .ref (c7)), (6, .ref (c9)), (0, .ref (b)), (1, .int (iZ (((s : Nat) : Int)))), (2, .int (iZ (((x0 : Nat) : Int)))), (3, .int (iZ (((y0 : Nat) : Int)))), (4, .int (iZ (((x1 : Nat) : Int)))), (5, .int (iZ (((y1 : Nat) : Int))))] := hl
  refine pb_ic C dX1_stepsByRows_23 ?_
  refine pb_istore C dX1_stepsByRows_24 hl (by decide) rfl fun ls hl => ?_
  have hl : lv_has ls 10 [(9, .int (iZ (1))), (8, .int (iZ (0))), (7, .ref (c7)), (6, .ref (c9)), (0, .ref (b)), (1, .int (iZ (((s : Nat) : Int)))), (2, .int (iZ (((x0 : Nat) : Int)))), (3, .int (iZ (((y0 : Nat) : Int)))), (4, .int (iZ (((x1 : Nat) : Int)))), (5, .int (iZ (((y1 : Nat) : Int))))] := hl
  exact pb_V.mono (by omega) (by omega) (L26 _ 0 c9 c7 z7 true H2 rfl hG (by decide) (by omega) hQ9 hC7 (fun m h9 _ => absurd h9 (Nat.not_lt_zero m)) (fun h9 => by cases h9) (fun m h9 => absurd h9 (Nat.not_lt_zero m)) hFF ls (lv_sub hl [8, 9, 3, 2, 1, 0] rfl))

