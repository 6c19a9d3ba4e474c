set_option maxRecDepth 100000
set_option maxHeartbeats 1000000 in
theorem met_X1_steps {w : pb_W} (l : Launch) {H0 : Heap} (b sl : Nat) (pv : Value) (V : List Nat) (P : Nat → Prop) (G : Nat → Nat → Nat) (hS0 : Sq w H0 P b sl pv V G) (s : Nat) (hs : s < 8) (x0 y0 x1 y1 : Nat) (hx0 : x0 < 24) (hy0 : y0 < 24) (hx1 : x1 < 24) (hy1 : y1 < 24) (h0 : gc (G s) ((x0 : Nat) : Int) ((y0 : Nat) : Int) = true) (h1 : gc (G s) ((x1 : Nat) : Int) ((y1 : Nat) : Int) = true) (hway : ∃ m, lv (G s) (24 * y0 + x0) m (24 * y1 + x1)) : pb_M w l yX1_steps cX1_steps 7 (some .int) 6 (615) (3707) [.ref (b), .int (iZ (((s : Nat) : Int))), .int (iZ (((x0 : Nat) : Int))), .int (iZ (((y0 : Nat) : Int))), .int (iZ (((x1 : Nat) : Int))), .int (iZ (((y1 : Nat) : Int)))] H0 (pb_qi (fun z H1 => (∃ n : Nat, z = ((n : Nat) : Int) ∧ n ≤ 2400 ∧ dst (G s) (24 * y0 + x0) n (24 * y1 + x1)) ∧ pb_F (fun q => q < H0.size) H0 H1)) := by
  refine pb_of (by decide +kernel) (Nat.le_of_ble_eq_true rfl) ?_
  intro p_ e_ s_ m_ ar_ bl_ me_ co_ ls C hh hG hl
  have hl : lv_has ls 7 [(0, .ref (b)), (1, .int (iZ (((s : Nat) : Int)))), (2, .int (iZ (((x0 : Nat) : Int)))), (3, .int (iZ (((y0 : Nat) : Int)))), (4, .int (iZ (((x1 : Nat) : Int)))), (5, .int (iZ (((y1 : Nat) : Int))))] := hl
  have hzs := hG.1
  have hS := hS0.below
  have hFF : pb_F (fun q => q < H0.size) H0 H0 := pb_F.rf
  obtain ⟨hPb, hBo, hLr, hV8⟩ := id hS.1
  obtain ⟨hg, L, hR, hr⟩ := hS.2 s hs
  obtain ⟨fsr_, hRo⟩ := hR.o
  obtain ⟨hp1, hp2, hp3, hp4⟩ := rq_pre hg hr
  have hgG := hg
  refine pb_aload_n C dX1_steps_0 rfl (lv_at hl 0 rfl) ?_
  refine pb_iload_n C dX1_steps_1 rfl (lv_at hl 1 rfl) ?_
  refine pb_iload_n C dX1_steps_2 rfl (lv_at hl 2 rfl) ?_
  refine pb_iload_n C dX1_steps_3 rfl (lv_at hl 3 rfl) ?_
  refine pb_iload C dX1_steps_4 (lv_at hl 4 rfl) ?_
  refine pb_iload C dX1_steps_6 (lv_at hl 5 rfl) ?_
  refine pb_go_r (bc' := 587) (bs' := 3578) (pb_runV (rest := []) C hG (met_X1_checkedCells l b sl pv V _ G hS s hs x0 y0 x1 y1 hx0 hy0 hx1 hy1 h0 h1) hBo (ci := 0) rfl (lw_V q1548 q1550 qs23 q51 q1551) ⟨rfl, hdX1_checkedCells⟩ rfl hl.1 rfl (Nat.le_of_ble_eq_true rfl) ⟨(Nat.le_of_ble_eq_true rfl), (Nat.le_of_ble_eq_true rfl)⟩ dX1_steps_8) (by omega) (by omega) (fun c9 H1 hp_ => ?_)
  obtain ⟨z9, r9, hz9, hC9, hF1⟩ := hp_
  have hs1 := hF1.1
  have hG := hG.kept (hF1.mono (fun q _ (hq : q < w.2.2.2) => show q < _ from by omega))
  have hFF := hFF.tr hF1
  refine pb_astore C dX1_steps_11 hl (by decide) rfl fun ls hl => ?_
  have hl : lv_has ls 7 [(6, .ref (c9)), (0, .ref (b)), (1, .int (iZ (((s : Nat) : Int)))), (2, .int (iZ (((x0 : Nat) : Int)))), (3, .int (iZ (((y0 : Nat) : Int)))), (4, .int (iZ (((x1 : Nat) : Int)))), (5, .int (iZ (((y1 : Nat) : Int))))] := hl
  refine pb_aload C dX1_steps_13 (lv_at hl 0 rfl) ?_
  refine pb_bip C dX1_steps_15 (by decide) ?_
  refine pb_iload_n C dX1_steps_17 rfl (lv_at hl 4 rfl) ?_
  refine pb_imul C dX1_steps_18 ?_
  refine pb_iload_n C dX1_steps_19 rfl (lv_at hl 3 rfl) ?_
  refine pb_iadd C dX1_steps_20 ?_
  refine pb_go_r (bc' := 0) (bs' := 0) (pb_runS (rest := []) C hG (met_X1_stepsFrom l c9 ((24 * y0) + x0) _ (G s) hC9.q (by omega)) (lw_S q1552 q1553 q51 q1554) hdX1_stepsFrom rfl hl.1 rfl (Nat.le_of_ble_eq_true rfl) ⟨(Nat.le_of_ble_eq_true rfl), (Nat.le_of_ble_eq_true rfl)⟩ dX1_steps_21) (by omega) (by omega) (fun s9 H2 hp_ => ?_)
  obtain ⟨A, F, n, hA, hAe, hq, hFn, hFb, hF2⟩ := hp_
  have hG := hG.kept (hF2.mono (fun q _ (hq : q < w.2.2.2) => show q < _ from by omega))
  have hFF := hFF.tr (hF2.mono (fun q _ (hq : q < H0.size) => show q < _ from by omega))
  have hbl := bq_law hgG (show 24 * y0 + x0 < 576 from by omega) (show 24 * y1 + x1 < 576 from by omega) hq
  rw [hFn] at hbl
  obtain ⟨v, hv, hdst⟩ : ∃ v : Nat, F (24 * y1 + x1) = ((v : Nat) : Int) ∧ dst (G s) (24 * y0 + x0) v (24 * y1 + x1) := by
    rcases hbl with h | h
    · exact h
    · obtain ⟨m9, hm9⟩ := hway
      exact absurd hm9 (h.2 m9)
  have hvb := hFb (24 * y1 + x1)
  refine pb_bip C dX1_steps_24 (by decide) ?_
  refine pb_iload C dX1_steps_26 (lv_at hl 6 rfl) ?_
  refine pb_imul C dX1_steps_28 ?_
  refine pb_iload C dX1_steps_29 (lv_at hl 5 rfl) ?_
  refine pb_iadd C dX1_steps_31 ?_
  refine pb_iald C hA.b (i := ((((24 * y1) + x1) : Nat) : Int)) (v := .int (iZ ((A (((24 * y1) + x1)))))) (by omega) rfl dX1_steps_32 ?_
  refine pb_eq (g2 := F0 m_ 33 ls [.int (iZ (((v : Nat) : Int)))]) (congrArg (fun z9 => F0 m_ 33 ls [.int (iZ z9)]) (show (A (((24 * y1) + x1))) = ((v : Nat) : Int) from ((hAe _ (by omega)).trans hv))) ?_
  refine pb_go_x (bc' := 0) (bs' := 0) (pb_runS (rest := []) C hG (met_X1_found l v (by omega)) (lw_S q1573 q1574 q51 q1575) hdX1_found rfl hl.1 rfl (Nat.le_of_ble_eq_true rfl) ⟨(Nat.le_of_ble_eq_true rfl), (Nat.le_of_ble_eq_true rfl)⟩ dX1_steps_33) (by omega) (by omega) ?_
  exact pb_iret C dX1_steps_36 (⟨_, rfl, ⟨v, rfl, by omega, hdst⟩, hFF⟩)

