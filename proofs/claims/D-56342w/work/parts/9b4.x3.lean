set_option maxRecDepth 100000
theorem and_f {p q : Prop} [Decidable p] [Decidable q] (h : ¬ (p ∧ q)) : (decide p && decide q) = false := by
  rw [Bool.and_eq_false_iff, decide_eq_false_iff_not, decide_eq_false_iff_not]
  exact Decidable.not_and_iff_or_not.mp h
theorem and_t {p q : Prop} [Decidable p] [Decidable q] (h : (decide p && decide q) = true) : p ∧ q := by
  rw [Bool.and_eq_true, decide_eq_true_eq, decide_eq_true_eq] at h; exact h
set_option maxHeartbeats 1000000 in
theorem mex_X1_fill_2 {w : pb_W} (l : Launch) {H : Heap} (hlx : l.stackTraces = false) (b sl : Nat) (pv : Value) (V : List Nat) (P : Nat → Prop) (G : Nat → Nat → Nat) (hS : Sq w H P b sl pv V G) (s : Nat) (hs : s < 8) (x1 x2 x3 x4 : Int) (h1 : -2147483648 ≤ x1 ∧ x1 ≤ 2147483647) (h2 : -2147483648 ≤ x2 ∧ x2 ≤ 2147483647) (h3 : -2147483648 ≤ x3 ∧ x3 ≤ 2147483647) (h4 : -2147483648 ≤ x4 ∧ x4 ≤ 2147483647) (h9 : ¬ ((0 ≤ x1 ∧ 0 ≤ x2) ∧ (x3 ≤ 24 ∧ x4 ≤ 24) ∧ x1 < x3 ∧ x2 < x4)) : pb_X w l yX1_fill cX1_fill 6 (some .int) 8 (1) (6) [.ref (b), .int (iZ (((s : Nat) : Int))), .int (iZ (x1)), .int (iZ (x2)), .int (iZ (x3)), .int (iZ (x4))] H (RJ14) := by
  refine pb_ofX (by decide +kernel) (Nat.le_of_ble_eq_true rfl) ?_
  intro p_ e_ s_ m_ ar_ bl_ me_ co_ ls C hh hG hl hT
  have hG0 := hG
  have hF : pb_F (fun _ => True) H H := pb_F.rf
  have hl : lv_has ls 6 [(0, .ref (b)), (1, .int (iZ (((s : Nat) : Int)))), (2, .int (iZ (x1))), (3, .int (iZ (x2))), (4, .int (iZ (x3))), (5, .int (iZ (x4)))] := hl
  obtain ⟨hPb, hBo, hLr, hV8⟩ := id hS.1
  obtain ⟨fsr_, hRo⟩ : ∃ fs, pb_R w H (nV V s) 1 fs := by
    obtain ⟨-, L9, hR9, -⟩ := hS.2 s hs
    exact hR9.o
  refine pb_aload_n C dX1_fill_0 rfl (lv_at hl 0 rfl) ?_
  refine pb_iload_n C dX1_fill_1 rfl (lv_at hl 1 rfl) ?_
  refine pb_go_x (bc' := 1) (bs' := 6) (pb_runV (rest := []) C hG (met_X1_region l b sl pv V _ G hS s hs) hBo (ci := 0) rfl (lw_V q325 q327 qs4 q51 q328) ⟨rfl, hdX1_region⟩ rfl hl.1 rfl (Nat.le_of_ble_eq_true rfl) ⟨(Nat.le_of_ble_eq_true rfl), (Nat.le_of_ble_eq_true rfl)⟩ dX1_fill_2) (by omega) (by omega) ?_
  refine pb_pop C dX1_fill_5 rfl ?_
  refine pb_iload_n C dX1_fill_6 rfl (lv_at hl 2 rfl) ?_
  refine pb_iload_n C dX1_fill_7 rfl (lv_at hl 3 rfl) ?_
  refine pb_iload C dX1_fill_8 (lv_at hl 4 rfl) ?_
  refine pb_iload C dX1_fill_10 (lv_at hl 5 rfl) ?_
  exact pb_outX C hF hT (pb_runSX (rest := []) C hG (mex_X1_checkRectangle l hlx x1 x2 x3 x4 h1 h2 h3 h4 h9) (lw_S q375 q376 q51 q377) hdX1_checkRectangle rfl hl.1 rfl (Nat.le_of_ble_eq_true rfl) ⟨(Nat.le_of_ble_eq_true rfl), (Nat.le_of_ble_eq_true rfl)⟩ dX1_fill_12) (by omega) (by omega)

set_option maxHeartbeats 1000000 in
theorem mex_X1_erase_2 {w : pb_W} (l : Launch) {H : Heap} (hlx : l.stackTraces = false) (b sl : Nat) (pv : Value) (V : List Nat) (P : Nat → Prop) (G : Nat → Nat → Nat) (hS : Sq w H P b sl pv V G) (s : Nat) (hs : s < 8) (x1 x2 x3 x4 : Int) (h1 : -2147483648 ≤ x1 ∧ x1 ≤ 2147483647) (h2 : -2147483648 ≤ x2 ∧ x2 ≤ 2147483647) (h3 : -2147483648 ≤ x3 ∧ x3 ≤ 2147483647) (h4 : -2147483648 ≤ x4 ∧ x4 ≤ 2147483647) (h9 : ¬ ((0 ≤ x1 ∧ 0 ≤ x2) ∧ (x3 ≤ 24 ∧ x4 ≤ 24) ∧ x1 < x3 ∧ x2 < x4)) : pb_X w l yX1_erase cX1_erase 6 (some .int) 8 (1) (6) [.ref (b), .int (iZ (((s : Nat) : Int))), .int (iZ (x1)), .int (iZ (x2)), .int (iZ (x3)), .int (iZ (x4))] H (RJ14) := by
  refine pb_ofX (by decide +kernel) (Nat.le_of_ble_eq_true rfl) ?_
  intro p_ e_ s_ m_ ar_ bl_ me_ co_ ls C hh hG hl hT
  have hG0 := hG
  have hF : pb_F (fun _ => True) H H := pb_F.rf
  have hl : lv_has ls 6 [(0, .ref (b)), (1, .int (iZ (((s : Nat) : Int)))), (2, .int (iZ (x1))), (3, .int (iZ (x2))), (4, .int (iZ (x3))), (5, .int (iZ (x4)))] := hl
  obtain ⟨hPb, hBo, hLr, hV8⟩ := id hS.1
  obtain ⟨fsr_, hRo⟩ : ∃ fs, pb_R w H (nV V s) 1 fs := by
    obtain ⟨-, L9, hR9, -⟩ := hS.2 s hs
    exact hR9.o
  refine pb_aload_n C dX1_erase_0 rfl (lv_at hl 0 rfl) ?_
  refine pb_iload_n C dX1_erase_1 rfl (lv_at hl 1 rfl) ?_
  refine pb_go_x (bc' := 1) (bs' := 6) (pb_runV (rest := []) C hG (met_X1_region l b sl pv V _ G hS s hs) hBo (ci := 0) rfl (lw_V q325 q327 qs4 q51 q328) ⟨rfl, hdX1_region⟩ rfl hl.1 rfl (Nat.le_of_ble_eq_true rfl) ⟨(Nat.le_of_ble_eq_true rfl), (Nat.le_of_ble_eq_true rfl)⟩ dX1_erase_2) (by omega) (by omega) ?_
  refine pb_pop C dX1_erase_5 rfl ?_
  refine pb_iload_n C dX1_erase_6 rfl (lv_at hl 2 rfl) ?_
  refine pb_iload_n C dX1_erase_7 rfl (lv_at hl 3 rfl) ?_
  refine pb_iload C dX1_erase_8 (lv_at hl 4 rfl) ?_
  refine pb_iload C dX1_erase_10 (lv_at hl 5 rfl) ?_
  exact pb_outX C hF hT (pb_runSX (rest := []) C hG (mex_X1_checkRectangle l hlx x1 x2 x3 x4 h1 h2 h3 h4 h9) (lw_S q375 q376 q51 q377) hdX1_checkRectangle rfl hl.1 rfl (Nat.le_of_ble_eq_true rfl) ⟨(Nat.le_of_ble_eq_true rfl), (Nat.le_of_ble_eq_true rfl)⟩ dX1_erase_12) (by omega) (by omega)

set_option maxHeartbeats 1000000 in
theorem mex_X1_moveTo_1 {w : pb_W} (l : Launch) {H : Heap} (hlx : l.stackTraces = false) (b : Nat) (x y : Int) (hx : -2147483648 ≤ x ∧ x ≤ 2147483647) (hy : -2147483648 ≤ y ∧ y ≤ 2147483647) (hn : ¬ ((0 ≤ x ∧ x ≤ 24) ∧ 0 ≤ y ∧ y ≤ 24)) : pb_X w l yX1_moveTo cX1_moveTo 3 (some .int) 7 (1) (6) [.ref (b), .int (iZ (x)), .int (iZ (y))] H (RJ14) := by
  refine pb_ofX (by decide +kernel) (Nat.le_of_ble_eq_true rfl) ?_
  intro p_ e_ s_ m_ ar_ bl_ me_ co_ ls C hh hG hl hT
  have hG0 := hG
  have hF : pb_F (fun _ => True) H H := pb_F.rf
  have hl : lv_has ls 3 [(0, .ref (b)), (1, .int (iZ (x))), (2, .int (iZ (y)))] := hl
  refine pb_iload_n C dX1_moveTo_0 rfl (lv_at hl 1 rfl) ?_
  refine pb_iload_n C dX1_moveTo_1 rfl (lv_at hl 2 rfl) ?_
  refine pb_go_x (bc' := 1) (bs' := 6) (pb_runS (rest := []) C hG (met_X1_isPoint l x y hx hy) (lw_S q378 q379 q51 q380) hdX1_isPoint rfl hl.1 rfl (Nat.le_of_ble_eq_true rfl) ⟨(Nat.le_of_ble_eq_true rfl), (Nat.le_of_ble_eq_true rfl)⟩ dX1_moveTo_2) (by omega) (by omega) ?_
  refine pb_eq (g2 := F0 m_ 5 ls [.int (iZ (0))]) (congrArg (fun z9 => F0 m_ 5 ls [.int (iZ z9)]) (show (bI ((decide (0 ≤ x ∧ x ≤ 24) && decide (0 ≤ y ∧ y ≤ 24)))) = 0 from (bI_f (and_f hn)))) ?_
  exact pb_outX C hF hT (pb_runSX (rest := []) C hG (mex_X1_checkArgument l hlx) (lw_S q381 q382 q51 q383) hdX1_checkArgument rfl hl.1 rfl (Nat.le_of_ble_eq_true rfl) ⟨(Nat.le_of_ble_eq_true rfl), (Nat.le_of_ble_eq_true rfl)⟩ dX1_moveTo_5) (by omega) (by omega)

set_option maxHeartbeats 1000000 in
theorem mex_X1_lineTo_1a {w : pb_W} (l : Launch) {H : Heap} (hlx : l.stackTraces = false) (b : Nat) (v : Value) (hBo : pb_R w H b 0 [v, .null]) (x y : Int) : pb_X w l yX1_lineTo cX1_lineTo 3 (some .int) 7 (1) (6) [.ref (b), .int (iZ (x)), .int (iZ (y))] H (RJ17) := by
  refine pb_ofX (by decide +kernel) (Nat.le_of_ble_eq_true rfl) ?_
  intro p_ e_ s_ m_ ar_ bl_ me_ co_ ls C hh hG hl hT
  have hG0 := hG
  have hF : pb_F (fun _ => True) H H := pb_F.rf
  have hl : lv_has ls 3 [(0, .ref (b)), (1, .int (iZ (x))), (2, .int (iZ (y)))] := hl
  refine pb_aload_n C dX1_lineTo_0 rfl (lv_at hl 0 rfl) ?_
  refine pb_aload_n C dX1_lineTo_1 rfl (lv_at hl 0 rfl) ?_
  refine pb_get C in_X1 hBo (ci := 0) rfl 1 (by decide) q228 (fun _ h9 => h9) (v := .null) rfl dX1_lineTo_2 ?_
  refine pb_ifnullN C dX1_lineTo_5 (tgt := 24) (by decide) ?_
  refine pb_ic C dX1_lineTo_24 ?_
  exact pb_outX C hF hT (pb_runVX (rest := []) C hG (mex_X1_checkPath l hlx b) hBo (ci := 0) rfl (lw_V q781 q783 qs9 q51 q784) ⟨rfl, hdX1_checkPath⟩ rfl hl.1 rfl (Nat.le_of_ble_eq_true rfl) ⟨(Nat.le_of_ble_eq_true rfl), (Nat.le_of_ble_eq_true rfl)⟩ dX1_lineTo_25) (by omega) (by omega)

set_option maxHeartbeats 1000000 in
theorem mex_X1_lineTo_1b {w : pb_W} (l : Launch) {H : Heap} (hlx : l.stackTraces = false) (b c : Nat) (v v1 v2 : Value) (hBo : pb_R w H b 0 [v, .ref c]) (hCo : pb_R w H c 10 [v1, v2, .int (iZ ((40 : Nat) : Int))]) (x y : Int) : pb_X w l yX1_lineTo cX1_lineTo 3 (some .int) 7 (1) (6) [.ref (b), .int (iZ (x)), .int (iZ (y))] H (RJ17) := by
  refine pb_ofX (by decide +kernel) (Nat.le_of_ble_eq_true rfl) ?_
  intro p_ e_ s_ m_ ar_ bl_ me_ co_ ls C hh hG hl hT
  have hG0 := hG
  have hF : pb_F (fun _ => True) H H := pb_F.rf
  have hl : lv_has ls 3 [(0, .ref (b)), (1, .int (iZ (x))), (2, .int (iZ (y)))] := hl
  refine pb_aload_n C dX1_lineTo_0 rfl (lv_at hl 0 rfl) ?_
  refine pb_aload_n C dX1_lineTo_1 rfl (lv_at hl 0 rfl) ?_
  refine pb_get C in_X1 hBo (ci := 0) rfl 1 (by decide) q228 (fun _ h9 => h9) (v := .ref (c)) rfl dX1_lineTo_2 ?_
  refine pb_ifnull C dX1_lineTo_5 ?_
  refine pb_aload_n C dX1_lineTo_8 rfl (lv_at hl 0 rfl) ?_
  refine pb_get C in_X1 hBo (ci := 0) rfl 1 (by decide) q228 (fun _ h9 => h9) (v := .ref (c)) rfl dX1_lineTo_9 ?_
  refine pb_getN C in_X11 hCo (ci := 10) rfl 2 (by decide) q765 (fun _ h9 => h9) (v := .int (iZ (((40 : Nat) : Int)))) rfl dX1_lineTo_12 ?_
  refine pb_bip C dX1_lineTo_15 (by decide) ?_
  refine pb_icmp_ge C dX1_lineTo_17 (x := ((40 : Nat) : Int)) (y := 40) (tgt := 24) (by decide) (by omega) (by omega) (fun c17_ => ?_) (fun c17_ => ?_)
  · refine pb_ic C dX1_lineTo_24 ?_
    exact pb_outX C hF hT (pb_runVX (rest := []) C hG (mex_X1_checkPath l hlx b) hBo (ci := 0) rfl (lw_V q781 q783 qs9 q51 q784) ⟨rfl, hdX1_checkPath⟩ rfl hl.1 rfl (Nat.le_of_ble_eq_true rfl) ⟨(Nat.le_of_ble_eq_true rfl), (Nat.le_of_ble_eq_true rfl)⟩ dX1_lineTo_25) (by omega) (by omega)
  · omega

set_option maxHeartbeats 1000000 in
theorem mex_X1_lineTo_2 {w : pb_W} (l : Launch) {H : Heap} (hlx : l.stackTraces = false) (b c xs ys : Nat) (v : Value) (hBo : pb_R w H b 0 [v, .ref c]) (X Y : Nat → Int) (n : Nat) (hPo : Po w H c xs ys X Y n) (h1 : 1 ≤ n ∧ n ≤ 39) (x y : Int) (hx : -2147483648 ≤ x ∧ x ≤ 2147483647) (hy : -2147483648 ≤ y ∧ y ≤ 2147483647) (hn : ¬ (((0 ≤ x ∧ x ≤ 24) ∧ 0 ≤ y ∧ y ≤ 24) ∧ stA X Y (n - 1) x y = true)) : pb_X w l yX1_lineTo cX1_lineTo 3 (some .int) 7 (1) (6) [.ref (b), .int (iZ (x)), .int (iZ (y))] H (RJ14) := by
  refine pb_ofX (by decide +kernel) (Nat.le_of_ble_eq_true rfl) ?_
  intro p_ e_ s_ m_ ar_ bl_ me_ co_ ls C hh hG hl hT
  have hG0 := hG
  have hF : pb_F (fun _ => True) H H := pb_F.rf
  have hl : lv_has ls 3 [(0, .ref (b)), (1, .int (iZ (x))), (2, .int (iZ (y)))] := hl
  have hPc := hPo.1.r
  refine pb_aload_n C dX1_lineTo_0 rfl (lv_at hl 0 rfl) ?_
  refine pb_aload_n C dX1_lineTo_1 rfl (lv_at hl 0 rfl) ?_
  refine pb_get C in_X1 hBo (ci := 0) rfl 1 (by decide) q228 (fun _ h9 => h9) (v := .ref (c)) rfl dX1_lineTo_2 ?_
  refine pb_ifnull C dX1_lineTo_5 ?_
  refine pb_aload_n C dX1_lineTo_8 rfl (lv_at hl 0 rfl) ?_
  refine pb_get C in_X1 hBo (ci := 0) rfl 1 (by decide) q228 (fun _ h9 => h9) (v := .ref (c)) rfl dX1_lineTo_9 ?_
  refine pb_getN C in_X11 hPc (ci := 10) rfl 2 (by decide) q765 (fun _ h9 => h9) (v := .int (iZ (((n : Nat) : Int)))) rfl dX1_lineTo_12 ?_
  refine pb_bip C dX1_lineTo_15 (by decide) ?_
  refine pb_icmp_ge C dX1_lineTo_17 (x := ((n : Nat) : Int)) (y := 40) (tgt := 24) (by decide) (by omega) (by omega) (fun c17_ => ?_) (fun c17_ => ?_)
  · omega
  · refine pb_ic C dX1_lineTo_20 ?_
    refine pb_goto C dX1_lineTo_21 (tgt := 25) (by decide) ?_
    refine pb_go_n (bc' := 1) (bs' := 6) (pb_runV (rest := []) C hG (met_X1_checkPath l b) hBo (ci := 0) rfl (lw_V q781 q783 qs9 q51 q784) ⟨rfl, hdX1_checkPath⟩ rfl hl.1 rfl (Nat.le_of_ble_eq_true rfl) ⟨(Nat.le_of_ble_eq_true rfl), (Nat.le_of_ble_eq_true rfl)⟩ dX1_lineTo_25) (by omega) (by omega) ?_
    refine pb_iload_n C dX1_lineTo_28 rfl (lv_at hl 1 rfl) ?_
    refine pb_iload_n C dX1_lineTo_29 rfl (lv_at hl 2 rfl) ?_
    refine pb_go_x (bc' := 1) (bs' := 6) (pb_runS (rest := []) C hG (met_X1_isPoint l x y hx hy) (lw_S q378 q379 q51 q380) hdX1_isPoint rfl hl.1 rfl (Nat.le_of_ble_eq_true rfl) ⟨(Nat.le_of_ble_eq_true rfl), (Nat.le_of_ble_eq_true rfl)⟩ dX1_lineTo_30) (by omega) (by omega) ?_
    refine pb_ifB_eq C dX1_lineTo_33 (tgt := 61) (by decide) (fun c33_ => ?_) (fun c33_ => ?_)
    · refine pb_ic C dX1_lineTo_61 ?_
      exact pb_outX C hF hT (pb_runSX (rest := []) C hG (mex_X1_checkArgument l hlx) (lw_S q381 q382 q51 q383) hdX1_checkArgument rfl hl.1 rfl (Nat.le_of_ble_eq_true rfl) ⟨(Nat.le_of_ble_eq_true rfl), (Nat.le_of_ble_eq_true rfl)⟩ dX1_lineTo_62) (by omega) (by omega)
    · refine pb_aload_n C dX1_lineTo_36 rfl (lv_at hl 0 rfl) ?_
      refine pb_get C in_X1 hBo (ci := 0) rfl 1 (by decide) q228 (fun _ h9 => h9) (v := .ref (c)) rfl dX1_lineTo_37 ?_
      refine pb_aload_n C dX1_lineTo_40 rfl (lv_at hl 0 rfl) ?_
      refine pb_get C in_X1 hBo (ci := 0) rfl 1 (by decide) q228 (fun _ h9 => h9) (v := .ref (c)) rfl dX1_lineTo_41 ?_
      refine pb_getN C in_X11 hPc (ci := 10) rfl 2 (by decide) q765 (fun _ h9 => h9) (v := .int (iZ (((n : Nat) : Int)))) rfl dX1_lineTo_44 ?_
      refine pb_ic C dX1_lineTo_47 ?_
      refine pb_isub C dX1_lineTo_48 ?_
      refine pb_eq (g2 := F0 m_ 49 ls [.int (iZ ((((n - 1) : Nat) : Int))), .ref (c)]) (congrArg (fun z9 => F0 m_ 49 ls [.int (iZ z9), .ref (c)]) (show (((n : Nat) : Int) - 1) = (((n - 1) : Nat) : Int) from (by omega))) ?_
      refine pb_iload_n C dX1_lineTo_49 rfl (lv_at hl 1 rfl) ?_
      refine pb_iload_n C dX1_lineTo_50 rfl (lv_at hl 2 rfl) ?_
      refine pb_go_x (bc' := 1) (bs' := 6) (pb_runV (rest := []) C hG (met_X11_isStraightFrom l c _ X Y n (hPo.q (by omega)) (n - 1) (by omega) x y hx hy) hPc (ci := 10) rfl (lw_V q800 q801 q802 q80 q803) ⟨rfl, hdX11_isStraightFrom⟩ rfl hl.1 rfl (Nat.le_of_ble_eq_true rfl) ⟨(Nat.le_of_ble_eq_true rfl), (Nat.le_of_ble_eq_true rfl)⟩ dX1_lineTo_51) (by omega) (by omega) ?_
      refine pb_ifB_eq C dX1_lineTo_54 (tgt := 61) (by decide) (fun c54_ => ?_) (fun c54_ => ?_)
      · refine pb_ic C dX1_lineTo_61 ?_
        exact pb_outX C hF hT (pb_runSX (rest := []) C hG (mex_X1_checkArgument l hlx) (lw_S q381 q382 q51 q383) hdX1_checkArgument rfl hl.1 rfl (Nat.le_of_ble_eq_true rfl) ⟨(Nat.le_of_ble_eq_true rfl), (Nat.le_of_ble_eq_true rfl)⟩ dX1_lineTo_62) (by omega) (by omega)
      · exact absurd ⟨and_t c33_, c54_⟩ hn

set_option maxHeartbeats 1000000 in
theorem mex_X1_closePath_2a {w : pb_W} (l : Launch) {H : Heap} (hlx : l.stackTraces = false) (b sl : Nat)  (V : List Nat) (P : Nat → Prop) (G : Nat → Nat → Nat) (hS : Sq w H P b sl .null V G) (s : Nat) (hs : s < 8) (od : Bool) : pb_X w l yX1_closePath cX1_closePath 4 (some .int) 7 (1) (6) [.ref (b), .int (iZ (((s : Nat) : Int))), .int (iZ ((bI (od))))] H (RJ17) := by
  refine pb_ofX (by decide +kernel) (Nat.le_of_ble_eq_true rfl) ?_
  intro p_ e_ s_ m_ ar_ bl_ me_ co_ ls C hh hG hl hT
  have hG0 := hG
  have hF : pb_F (fun _ => True) H H := pb_F.rf
  have hl : lv_has ls 4 [(0, .ref (b)), (1, .int (iZ (((s : Nat) : Int)))), (2, .int (iZ ((bI (od)))))] := hl
  have hS : Sq w H P b sl .null V G := hS
  obtain ⟨pv, hpv⟩ : ∃ pv, pv = Value.null := ⟨_, rfl⟩
  have hS9 := hS
  rw [← hpv] at hS
  obtain ⟨hPb, hBo, hLr, hV8⟩ := id hS.1
  rw [hpv] at hBo
  refine pb_aload_n C dX1_closePath_0 rfl (lv_at hl 0 rfl) ?_
  refine pb_iload_n C dX1_closePath_1 rfl (lv_at hl 1 rfl) ?_
  refine pb_go_x (bc' := 1) (bs' := 6) (pb_runV (rest := []) C hG (met_X1_region l b sl pv V _ G hS s hs) hBo (ci := 0) rfl (lw_V q325 q327 qs4 q51 q328) ⟨rfl, hdX1_region⟩ rfl hl.1 rfl (Nat.le_of_ble_eq_true rfl) ⟨(Nat.le_of_ble_eq_true rfl), (Nat.le_of_ble_eq_true rfl)⟩ dX1_closePath_2) (by omega) (by omega) ?_
  refine pb_pop C dX1_closePath_5 rfl ?_
  refine pb_aload_n C dX1_closePath_6 rfl (lv_at hl 0 rfl) ?_
  refine pb_aload_n C dX1_closePath_7 rfl (lv_at hl 0 rfl) ?_
  refine pb_get C in_X1 hBo (ci := 0) rfl 1 (by decide) q228 (fun _ h9 => h9) (v := .null) rfl dX1_closePath_8 ?_
  refine pb_ifnullN C dX1_closePath_11 (tgt := 28) (by decide) ?_
  refine pb_ic C dX1_closePath_28 ?_
  exact pb_outX C hF hT (pb_runVX (rest := []) C hG (mex_X1_checkPath l hlx b) hBo (ci := 0) rfl (lw_V q781 q783 qs9 q51 q784) ⟨rfl, hdX1_checkPath⟩ rfl hl.1 rfl (Nat.le_of_ble_eq_true rfl) ⟨(Nat.le_of_ble_eq_true rfl), (Nat.le_of_ble_eq_true rfl)⟩ dX1_closePath_29) (by omega) (by omega)

set_option maxHeartbeats 1000000 in
theorem mex_X1_closePath_2b {w : pb_W} (l : Launch) {H : Heap} (hlx : l.stackTraces = false) (b sl c xs ys : Nat) (V : List Nat) (P : Nat → Prop) (G : Nat → Nat → Nat) (hS : Sq w H P b sl (.ref c) V G) (s : Nat) (hs : s < 8) (X Y : Nat → Int) (n : Nat) (hPo : Po w H c xs ys X Y n) (h1 : 1 ≤ n ∧ n ≤ 40) (hcc : ccA X Y n = false) (od : Bool) : pb_X w l yX1_closePath cX1_closePath 4 (some .int) 7 (1) (6) [.ref (b), .int (iZ (((s : Nat) : Int))), .int (iZ ((bI (od))))] H (RJ17) := by
  refine pb_ofX (by decide +kernel) (Nat.le_of_ble_eq_true rfl) ?_
  intro p_ e_ s_ m_ ar_ bl_ me_ co_ ls C hh hG hl hT
  have hG0 := hG
  have hF : pb_F (fun _ => True) H H := pb_F.rf
  have hl : lv_has ls 4 [(0, .ref (b)), (1, .int (iZ (((s : Nat) : Int)))), (2, .int (iZ ((bI (od)))))] := hl
  obtain ⟨hPb, hBo, hLr, hV8⟩ := id hS.1
  have hPc := hPo.1.r
  refine pb_aload_n C dX1_closePath_0 rfl (lv_at hl 0 rfl) ?_
  refine pb_iload_n C dX1_closePath_1 rfl (lv_at hl 1 rfl) ?_
  refine pb_go_x (bc' := 1) (bs' := 6) (pb_runV (rest := []) C hG (met_X1_region l b sl (.ref c) V P G hS s hs) hBo (ci := 0) rfl (lw_V q325 q327 qs4 q51 q328) ⟨rfl, hdX1_region⟩ rfl hl.1 rfl (Nat.le_of_ble_eq_true rfl) ⟨(Nat.le_of_ble_eq_true rfl), (Nat.le_of_ble_eq_true rfl)⟩ dX1_closePath_2) (by omega) (by omega) ?_
  refine pb_pop C dX1_closePath_5 rfl ?_
  refine pb_aload_n C dX1_closePath_6 rfl (lv_at hl 0 rfl) ?_
  refine pb_aload_n C dX1_closePath_7 rfl (lv_at hl 0 rfl) ?_
  refine pb_get C in_X1 hBo (ci := 0) rfl 1 (by decide) q228 (fun _ h9 => h9) (v := .ref (c)) rfl dX1_closePath_8 ?_
  refine pb_ifnull C dX1_closePath_11 ?_
  refine pb_aload_n C dX1_closePath_14 rfl (lv_at hl 0 rfl) ?_
  refine pb_get C in_X1 hBo (ci := 0) rfl 1 (by decide) q228 (fun _ h9 => h9) (v := .ref (c)) rfl dX1_closePath_15 ?_
  refine pb_go_x (bc' := 1) (bs' := 6) (pb_runV (rest := [.ref (b)]) C hG (met_X11_canClose l c _ X Y n (hPo.q (by omega))) hPc (ci := 10) rfl (lw_V q812 q813 q814 q80 q815) ⟨rfl, hdX11_canClose⟩ rfl hl.1 rfl (Nat.le_of_ble_eq_true rfl) ⟨(Nat.le_of_ble_eq_true rfl), (Nat.le_of_ble_eq_true rfl)⟩ dX1_closePath_18) (by omega) (by omega) ?_
  refine pb_ifB_eq C dX1_closePath_21 (tgt := 28) (by decide) (fun c21_ => ?_) (fun c21_ => ?_)
  · refine pb_ic C dX1_closePath_28 ?_
    exact pb_outX C hF hT (pb_runVX (rest := []) C hG (mex_X1_checkPath l hlx b) hBo (ci := 0) rfl (lw_V q781 q783 qs9 q51 q784) ⟨rfl, hdX1_checkPath⟩ rfl hl.1 rfl (Nat.le_of_ble_eq_true rfl) ⟨(Nat.le_of_ble_eq_true rfl), (Nat.le_of_ble_eq_true rfl)⟩ dX1_closePath_29) (by omega) (by omega)
  · exact absurd c21_ (by rw [hcc]; exact Bool.false_ne_true)

set_option maxHeartbeats 1000000 in
theorem mex_X1_combine_2 {w : pb_W} (l : Launch) {H0 : Heap} (hlx : l.stackTraces = false) (b sl : Nat) (pv : Value) (V : List Nat) (P : Nat → Prop) (G : Nat → Nat → Nat) (hS : Sq w H0 P b sl pv V G) (s : Nat) (hs : s < 8) (t : Nat) (ht : t < 8) (u : Nat) (hu : u < 8) (c : Int) (hc : 0 ≤ c ∧ c ≤ 65535) (hn : c ≠ 117 ∧ c ≠ 105 ∧ c ≠ 100 ∧ c ≠ 120) : pb_X w l yX1_combine cX1_combine 8 (some .int) 7 (2) (10) [.ref (b), .int (iZ (c)), .int (iZ (((s : Nat) : Int))), .int (iZ (((t : Nat) : Int))), .int (iZ (((u : Nat) : Int)))] H0 (RJ14) := by
  refine pb_ofX (by decide +kernel) (Nat.le_of_ble_eq_true rfl) ?_
  intro p_ e_ s_ m_ ar_ bl_ me_ co_ ls C hh hG hl hT
  have hG0 := hG
  have hF : pb_F (fun _ => True) H0 H0 := pb_F.rf
  have hl : lv_has ls 8 [(0, .ref (b)), (1, .int (iZ (c))), (2, .int (iZ (((s : Nat) : Int)))), (3, .int (iZ (((t : Nat) : Int)))), (4, .int (iZ (((u : Nat) : Int))))] := hl
  have hzs := hG.1
  obtain ⟨hPb, hBo, hLr, hV8⟩ := id hS.1
  refine pb_aload_n C dX1_combine_0 rfl (lv_at hl 0 rfl) ?_
  refine pb_iload_n C dX1_combine_1 rfl (lv_at hl 2 rfl) ?_
  refine pb_go_x (bc' := 2) (bs' := 10) (pb_runV (rest := []) C hG (met_X1_region l b sl pv V _ G hS s hs) hBo (ci := 0) rfl (lw_V q325 q327 qs4 q51 q328) ⟨rfl, hdX1_region⟩ rfl hl.1 rfl (Nat.le_of_ble_eq_true rfl) ⟨(Nat.le_of_ble_eq_true rfl), (Nat.le_of_ble_eq_true rfl)⟩ dX1_combine_2) (by omega) (by omega) ?_
  refine pb_astore C dX1_combine_5 hl (by decide) rfl fun ls hl => ?_
  have hl : lv_has ls 8 [(5, .ref ((nV V s))), (0, .ref (b)), (1, .int (iZ (c))), (2, .int (iZ (((s : Nat) : Int)))), (3, .int (iZ (((t : Nat) : Int)))), (4, .int (iZ (((u : Nat) : Int))))] := hl
  refine pb_aload_n C dX1_combine_7 rfl (lv_at hl 1 rfl) ?_
  refine pb_iload_n C dX1_combine_8 rfl (lv_at hl 4 rfl) ?_
  refine pb_go_x (bc' := 2) (bs' := 10) (pb_runV (rest := []) C hG (met_X1_region l b sl pv V _ G hS t ht) hBo (ci := 0) rfl (lw_V q325 q327 qs4 q51 q328) ⟨rfl, hdX1_region⟩ rfl hl.1 rfl (Nat.le_of_ble_eq_true rfl) ⟨(Nat.le_of_ble_eq_true rfl), (Nat.le_of_ble_eq_true rfl)⟩ dX1_combine_9) (by omega) (by omega) ?_
  refine pb_astore C dX1_combine_12 hl (by decide) rfl fun ls hl => ?_
  have hl : lv_has ls 8 [(6, .ref ((nV V t))), (5, .ref ((nV V s))), (0, .ref (b)), (1, .int (iZ (c))), (2, .int (iZ (((s : Nat) : Int)))), (3, .int (iZ (((t : Nat) : Int)))), (4, .int (iZ (((u : Nat) : Int))))] := hl
  refine pb_aload_n C dX1_combine_14 rfl (lv_at hl 2 rfl) ?_
  refine pb_iload C dX1_combine_15 (lv_at hl 6 rfl) ?_
  refine pb_go_x (bc' := 2) (bs' := 10) (pb_runV (rest := []) C hG (met_X1_region l b sl pv V _ G hS u hu) hBo (ci := 0) rfl (lw_V q325 q327 qs4 q51 q328) ⟨rfl, hdX1_region⟩ rfl hl.1 rfl (Nat.le_of_ble_eq_true rfl) ⟨(Nat.le_of_ble_eq_true rfl), (Nat.le_of_ble_eq_true rfl)⟩ dX1_combine_17) (by omega) (by omega) ?_
  refine pb_pop C dX1_combine_20 rfl ?_
  refine pb_iload_n C dX1_combine_21 rfl (lv_at hl 3 rfl) ?_
  refine pb_go_q (bc' := 1) (bs' := 6) (pb_runS (rest := []) C hG (met_X6_of_n l c hc hn) (lw_S q842 q843 q73 q844) hdX6_of rfl hl.1 rfl (Nat.le_of_ble_eq_true rfl) ⟨(Nat.le_of_ble_eq_true rfl), (Nat.le_of_ble_eq_true rfl)⟩ dX1_combine_22) (by omega) (by omega) (fun o9 H1 hp_ => ?_)
  obtain ⟨rfl, hF1⟩ := hp_
  have hs1 := hF1.1
  have hG := hG.kept (hF1.mono (fun q _ (hq : q < w.2.2.2) => show q < _ from by omega))
  have hFF := hF1
  refine pb_astoreN C dX1_combine_25 hl (by decide) rfl fun ls hl => ?_
  have hl : lv_has ls 8 [(7, .null), (6, .ref ((nV V t))), (5, .ref ((nV V s))), (0, .ref (b)), (1, .int (iZ (c))), (2, .int (iZ (((s : Nat) : Int)))), (3, .int (iZ (((t : Nat) : Int)))), (4, .int (iZ (((u : Nat) : Int))))] := hl
  refine pb_aloadN C dX1_combine_27 (lv_at hl 0 rfl) ?_
  refine pb_ifnullN C dX1_combine_29 (tgt := 36) (by decide) ?_
  refine pb_ic C dX1_combine_36 ?_
  exact pb_outX C hFF.all hT (pb_runSX (rest := []) C hG (mex_X1_checkArgument l hlx) (lw_S q381 q382 q51 q383) hdX1_checkArgument rfl hl.1 rfl (Nat.le_of_ble_eq_true rfl) ⟨(Nat.le_of_ble_eq_true rfl), (Nat.le_of_ble_eq_true rfl)⟩ dX1_combine_37) (by omega) (by omega)

set_option maxHeartbeats 1000000 in
theorem mex_X1_grow_2 {w : pb_W} (l : Launch) {H : Heap} (hlx : l.stackTraces = false) (b sl : Nat) (pv : Value) (V : List Nat) (P : Nat → Prop) (G : Nat → Nat → Nat) (hS : Sq w H P b sl pv V G) (s : Nat) (hs : s < 8) (t : Nat) (ht : t < 8) (d : Int) (hd : -2147483648 ≤ d ∧ d ≤ 2147483647) (bd : ¬ (0 ≤ d ∧ d ≤ 8)) : pb_X w l yX1_grow cX1_grow 5 (some .int) 8 (1) (6) [.ref (b), .int (iZ (((s : Nat) : Int))), .int (iZ (d)), .int (iZ (((t : Nat) : Int)))] H (RJ14) := by
  refine pb_ofX (by decide +kernel) (Nat.le_of_ble_eq_true rfl) ?_
  intro p_ e_ s_ m_ ar_ bl_ me_ co_ ls C hh hG hl hT
  have hG0 := hG
  have hF : pb_F (fun _ => True) H H := pb_F.rf
  have hl : lv_has ls 5 [(0, .ref (b)), (1, .int (iZ (((s : Nat) : Int)))), (2, .int (iZ (d))), (3, .int (iZ (((t : Nat) : Int))))] := hl
  obtain ⟨hPb, hBo, hLr, hV8⟩ := id hS.1
  obtain ⟨fsr_, hRo⟩ : ∃ fs, pb_R w H (nV V s) 1 fs := by
    obtain ⟨-, L9, hR9, -⟩ := hS.2 s hs
    exact hR9.o
  refine pb_aload_n C dX1_grow_0 rfl (lv_at hl 0 rfl) ?_
  refine pb_iload_n C dX1_grow_1 rfl (lv_at hl 1 rfl) ?_
  refine pb_iload_n C dX1_grow_2 rfl (lv_at hl 3 rfl) ?_
  refine pb_go_x (bc' := 1) (bs' := 6) (pb_runV (rest := []) C hG (met_X1_regionFor l b sl pv V P G hS s hs t ht) hBo (ci := 0) rfl (lw_V q865 q867 qs12 q51 q868) ⟨rfl, hdX1_regionFor⟩ rfl hl.1 rfl (Nat.le_of_ble_eq_true rfl) ⟨(Nat.le_of_ble_eq_true rfl), (Nat.le_of_ble_eq_true rfl)⟩ dX1_grow_3) (by omega) (by omega) ?_
  refine pb_astore C dX1_grow_6 hl (by decide) rfl fun ls hl => ?_
  have hl : lv_has ls 5 [(4, .ref ((nV V s))), (0, .ref (b)), (1, .int (iZ (((s : Nat) : Int)))), (2, .int (iZ (d))), (3, .int (iZ (((t : Nat) : Int))))] := hl
  refine pb_iload_n C dX1_grow_8 rfl (lv_at hl 3 rfl) ?_
  exact pb_outX C hF hT (pb_runSX (rest := []) C hG (mex_X1_checkDistance l hlx d hd bd) (lw_S q869 q870 q51 q871) hdX1_checkDistance rfl hl.1 rfl (Nat.le_of_ble_eq_true rfl) ⟨(Nat.le_of_ble_eq_true rfl), (Nat.le_of_ble_eq_true rfl)⟩ dX1_grow_9) (by omega) (by omega)

set_option maxHeartbeats 1000000 in
theorem mex_X1_shrink_2 {w : pb_W} (l : Launch) {H : Heap} (hlx : l.stackTraces = false) (b sl : Nat) (pv : Value) (V : List Nat) (P : Nat → Prop) (G : Nat → Nat → Nat) (hS : Sq w H P b sl pv V G) (s : Nat) (hs : s < 8) (t : Nat) (ht : t < 8) (d : Int) (hd : -2147483648 ≤ d ∧ d ≤ 2147483647) (bd : ¬ (0 ≤ d ∧ d ≤ 8)) : pb_X w l yX1_shrink cX1_shrink 5 (some .int) 8 (1) (6) [.ref (b), .int (iZ (((s : Nat) : Int))), .int (iZ (d)), .int (iZ (((t : Nat) : Int)))] H (RJ14) := by
  refine pb_ofX (by decide +kernel) (Nat.le_of_ble_eq_true rfl) ?_
  intro p_ e_ s_ m_ ar_ bl_ me_ co_ ls C hh hG hl hT
  have hG0 := hG
  have hF : pb_F (fun _ => True) H H := pb_F.rf
  have hl : lv_has ls 5 [(0, .ref (b)), (1, .int (iZ (((s : Nat) : Int)))), (2, .int (iZ (d))), (3, .int (iZ (((t : Nat) : Int))))] := hl
  obtain ⟨hPb, hBo, hLr, hV8⟩ := id hS.1
  obtain ⟨fsr_, hRo⟩ : ∃ fs, pb_R w H (nV V s) 1 fs := by
    obtain ⟨-, L9, hR9, -⟩ := hS.2 s hs
    exact hR9.o
  refine pb_aload_n C dX1_shrink_0 rfl (lv_at hl 0 rfl) ?_
  refine pb_iload_n C dX1_shrink_1 rfl (lv_at hl 1 rfl) ?_
  refine pb_iload_n C dX1_shrink_2 rfl (lv_at hl 3 rfl) ?_
  refine pb_go_x (bc' := 1) (bs' := 6) (pb_runV (rest := []) C hG (met_X1_regionFor l b sl pv V P G hS s hs t ht) hBo (ci := 0) rfl (lw_V q865 q867 qs12 q51 q868) ⟨rfl, hdX1_regionFor⟩ rfl hl.1 rfl (Nat.le_of_ble_eq_true rfl) ⟨(Nat.le_of_ble_eq_true rfl), (Nat.le_of_ble_eq_true rfl)⟩ dX1_shrink_3) (by omega) (by omega) ?_
  refine pb_astore C dX1_shrink_6 hl (by decide) rfl fun ls hl => ?_
  have hl : lv_has ls 5 [(4, .ref ((nV V s))), (0, .ref (b)), (1, .int (iZ (((s : Nat) : Int)))), (2, .int (iZ (d))), (3, .int (iZ (((t : Nat) : Int))))] := hl
  refine pb_iload_n C dX1_shrink_8 rfl (lv_at hl 3 rfl) ?_
  exact pb_outX C hF hT (pb_runSX (rest := []) C hG (mex_X1_checkDistance l hlx d hd bd) (lw_S q869 q870 q51 q871) hdX1_checkDistance rfl hl.1 rfl (Nat.le_of_ble_eq_true rfl) ⟨(Nat.le_of_ble_eq_true rfl), (Nat.le_of_ble_eq_true rfl)⟩ dX1_shrink_9) (by omega) (by omega)

set_option maxHeartbeats 1000000 in
theorem mex_X1_move_2 {w : pb_W} (l : Launch) {H : Heap} (hlx : l.stackTraces = false) (b sl : Nat) (pv : Value) (V : List Nat) (P : Nat → Prop) (G : Nat → Nat → Nat) (hS : Sq w H P b sl pv V G) (s : Nat) (hs : s < 8) (t : Nat) (ht : t < 8) (x y : Int) (hx : -2147483648 ≤ x ∧ x ≤ 2147483647) (hy : -2147483648 ≤ y ∧ y ≤ 2147483647) (hn : ¬ ((-24 ≤ x ∧ x ≤ 24) ∧ -24 ≤ y ∧ y ≤ 24)) : pb_X w l yX1_move cX1_move 6 (some .int) 7 (1) (6) [.ref (b), .int (iZ (((s : Nat) : Int))), .int (iZ (x)), .int (iZ (y)), .int (iZ (((t : Nat) : Int)))] H (RJ14) := by
  refine pb_ofX (by decide +kernel) (Nat.le_of_ble_eq_true rfl) ?_
  intro p_ e_ s_ m_ ar_ bl_ me_ co_ ls C hh hG hl hT
  have hG0 := hG
  have hF : pb_F (fun _ => True) H H := pb_F.rf
  have hl : lv_has ls 6 [(0, .ref (b)), (1, .int (iZ (((s : Nat) : Int)))), (2, .int (iZ (x))), (3, .int (iZ (y))), (4, .int (iZ (((t : Nat) : Int))))] := hl
  obtain ⟨hPb, hBo, hLr, hV8⟩ := id hS.1
  obtain ⟨fsr_, hRo⟩ : ∃ fs, pb_R w H (nV V s) 1 fs := by
    obtain ⟨-, L9, hR9, -⟩ := hS.2 s hs
    exact hR9.o
  refine pb_aload_n C dX1_move_0 rfl (lv_at hl 0 rfl) ?_
  refine pb_iload_n C dX1_move_1 rfl (lv_at hl 1 rfl) ?_
  refine pb_iload C dX1_move_2 (lv_at hl 4 rfl) ?_
  refine pb_go_x (bc' := 1) (bs' := 6) (pb_runV (rest := []) C hG (met_X1_regionFor l b sl pv V P G hS s hs t ht) hBo (ci := 0) rfl (lw_V q865 q867 qs12 q51 q868) ⟨rfl, hdX1_regionFor⟩ rfl hl.1 rfl (Nat.le_of_ble_eq_true rfl) ⟨(Nat.le_of_ble_eq_true rfl), (Nat.le_of_ble_eq_true rfl)⟩ dX1_move_4) (by omega) (by omega) ?_
  refine pb_astore C dX1_move_7 hl (by decide) rfl fun ls hl => ?_
  have hl : lv_has ls 6 [(5, .ref ((nV V s))), (0, .ref (b)), (1, .int (iZ (((s : Nat) : Int)))), (2, .int (iZ (x))), (3, .int (iZ (y))), (4, .int (iZ (((t : Nat) : Int))))] := hl
  refine pb_iload_n C dX1_move_9 rfl (lv_at hl 3 rfl) ?_
  refine pb_bip C dX1_move_10 (by decide) ?_
  refine pb_bip C dX1_move_12 (by decide) ?_
  refine pb_go_x (bc' := 1) (bs' := 6) (pb_runS (rest := []) C hG (met_X1_isBetween l x (-24) 24 hx (by decide) (by decide)) (lw_S q332 q333 q51 q334) hdX1_isBetween rfl hl.1 rfl (Nat.le_of_ble_eq_true rfl) ⟨(Nat.le_of_ble_eq_true rfl), (Nat.le_of_ble_eq_true rfl)⟩ dX1_move_14) (by omega) (by omega) ?_
  refine pb_ifB_eq C dX1_move_17 (tgt := 35) (by decide) (fun c17_ => ?_) (fun c17_ => ?_)
  · have c17_ := of_decide_eq_false c17_
    refine pb_ic C dX1_move_35 ?_
    exact pb_outX C hF hT (pb_runSX (rest := []) C hG (mex_X1_checkArgument l hlx) (lw_S q381 q382 q51 q383) hdX1_checkArgument rfl hl.1 rfl (Nat.le_of_ble_eq_true rfl) ⟨(Nat.le_of_ble_eq_true rfl), (Nat.le_of_ble_eq_true rfl)⟩ dX1_move_36) (by omega) (by omega)
  · have c17_ := of_decide_eq_true c17_
    refine pb_iload_n C dX1_move_20 rfl (lv_at hl 4 rfl) ?_
    refine pb_bip C dX1_move_21 (by decide) ?_
    refine pb_bip C dX1_move_23 (by decide) ?_
    refine pb_go_x (bc' := 1) (bs' := 6) (pb_runS (rest := []) C hG (met_X1_isBetween l y (-24) 24 hy (by decide) (by decide)) (lw_S q332 q333 q51 q334) hdX1_isBetween rfl hl.1 rfl (Nat.le_of_ble_eq_true rfl) ⟨(Nat.le_of_ble_eq_true rfl), (Nat.le_of_ble_eq_true rfl)⟩ dX1_move_25) (by omega) (by omega) ?_
    refine pb_ifB_eq C dX1_move_28 (tgt := 35) (by decide) (fun c28_ => ?_) (fun c28_ => ?_)
    · have c28_ := of_decide_eq_false c28_
      refine pb_ic C dX1_move_35 ?_
      exact pb_outX C hF hT (pb_runSX (rest := []) C hG (mex_X1_checkArgument l hlx) (lw_S q381 q382 q51 q383) hdX1_checkArgument rfl hl.1 rfl (Nat.le_of_ble_eq_true rfl) ⟨(Nat.le_of_ble_eq_true rfl), (Nat.le_of_ble_eq_true rfl)⟩ dX1_move_36) (by omega) (by omega)
    · have c28_ := of_decide_eq_true c28_
      exact absurd ⟨c17_, c28_⟩ hn

set_option maxHeartbeats 1000000 in
theorem mex_X1_keepPart_2 {w : pb_W} (l : Launch) {H : Heap} (hlx : l.stackTraces = false) (b sl : Nat) (pv : Value) (V : List Nat) (P : Nat → Prop) (G : Nat → Nat → Nat) (hS : Sq w H P b sl pv V G) (s : Nat) (hs : s < 8) (t : Nat) (ht : t < 8) (x y : Int) (hx : -2147483648 ≤ x ∧ x ≤ 2147483647) (hy : -2147483648 ≤ y ∧ y ≤ 2147483647) (hn : ¬ ((0 ≤ x ∧ x ≤ 23) ∧ 0 ≤ y ∧ y ≤ 23)) : pb_X w l yX1_keepPart cX1_keepPart 8 (some .int) 7 (1) (6) [.ref (b), .int (iZ (((s : Nat) : Int))), .int (iZ (x)), .int (iZ (y)), .int (iZ (((t : Nat) : Int)))] H (RJ14) := by
  refine pb_ofX (by decide +kernel) (Nat.le_of_ble_eq_true rfl) ?_
  intro p_ e_ s_ m_ ar_ bl_ me_ co_ ls C hh hG hl hT
  have hG0 := hG
  have hF : pb_F (fun _ => True) H H := pb_F.rf
  have hl : lv_has ls 8 [(0, .ref (b)), (1, .int (iZ (((s : Nat) : Int)))), (2, .int (iZ (x))), (3, .int (iZ (y))), (4, .int (iZ (((t : Nat) : Int))))] := hl
  obtain ⟨hPb, hBo, hLr, hV8⟩ := id hS.1
  obtain ⟨fsr_, hRo⟩ : ∃ fs, pb_R w H (nV V s) 1 fs := by
    obtain ⟨-, L9, hR9, -⟩ := hS.2 s hs
    exact hR9.o
  refine pb_aload_n C dX1_keepPart_0 rfl (lv_at hl 0 rfl) ?_
  refine pb_iload_n C dX1_keepPart_1 rfl (lv_at hl 1 rfl) ?_
  refine pb_iload C dX1_keepPart_2 (lv_at hl 4 rfl) ?_
  refine pb_go_x (bc' := 1) (bs' := 6) (pb_runV (rest := []) C hG (met_X1_regionFor l b sl pv V P G hS s hs t ht) hBo (ci := 0) rfl (lw_V q865 q867 qs12 q51 q868) ⟨rfl, hdX1_regionFor⟩ rfl hl.1 rfl (Nat.le_of_ble_eq_true rfl) ⟨(Nat.le_of_ble_eq_true rfl), (Nat.le_of_ble_eq_true rfl)⟩ dX1_keepPart_4) (by omega) (by omega) ?_
  refine pb_astore C dX1_keepPart_7 hl (by decide) rfl fun ls hl => ?_
  have hl : lv_has ls 8 [(5, .ref ((nV V s))), (0, .ref (b)), (1, .int (iZ (((s : Nat) : Int)))), (2, .int (iZ (x))), (3, .int (iZ (y))), (4, .int (iZ (((t : Nat) : Int))))] := hl
  refine pb_iload_n C dX1_keepPart_9 rfl (lv_at hl 3 rfl) ?_
  refine pb_iload_n C dX1_keepPart_10 rfl (lv_at hl 4 rfl) ?_
  refine pb_go_x (bc' := 1) (bs' := 6) (pb_runS (rest := []) C hG (met_X1_isCell l x y hx hy) (lw_S q1050 q1038 q51 q1039) hdX1_isCell rfl hl.1 rfl (Nat.le_of_ble_eq_true rfl) ⟨(Nat.le_of_ble_eq_true rfl), (Nat.le_of_ble_eq_true rfl)⟩ dX1_keepPart_11) (by omega) (by omega) ?_
  refine pb_eq (g2 := F0 m_ 14 ls [.int (iZ (0))]) (congrArg (fun z9 => F0 m_ 14 ls [.int (iZ z9)]) (show (bI ((decide (0 ≤ x ∧ x ≤ 23) && decide (0 ≤ y ∧ y ≤ 23)))) = 0 from (bI_f (and_f hn)))) ?_
  exact pb_outX C hF hT (pb_runSX (rest := []) C hG (mex_X1_checkArgument l hlx) (lw_S q381 q382 q51 q383) hdX1_checkArgument rfl hl.1 rfl (Nat.le_of_ble_eq_true rfl) ⟨(Nat.le_of_ble_eq_true rfl), (Nat.le_of_ble_eq_true rfl)⟩ dX1_keepPart_14) (by omega) (by omega)

set_option maxHeartbeats 1000000 in
theorem mex_X1_contains_2 {w : pb_W} (l : Launch) {H : Heap} (hlx : l.stackTraces = false) (b sl : Nat) (pv : Value) (V : List Nat) (P : Nat → Prop) (G : Nat → Nat → Nat) (hS : Sq w H P b sl pv V G) (s : Nat) (hs : s < 8) (x y : Int) (hx : -2147483648 ≤ x ∧ x ≤ 2147483647) (hy : -2147483648 ≤ y ∧ y ≤ 2147483647) (hn : ¬ ((0 ≤ x ∧ x ≤ 23) ∧ 0 ≤ y ∧ y ≤ 23)) : pb_X w l yX1_contains cX1_contains 5 (some .boolean) 7 (1) (6) [.ref (b), .int (iZ (((s : Nat) : Int))), .int (iZ (x)), .int (iZ (y))] H (RJ14) := by
  refine pb_ofX (by decide +kernel) (Nat.le_of_ble_eq_true rfl) ?_
  intro p_ e_ s_ m_ ar_ bl_ me_ co_ ls C hh hG hl hT
  have hG0 := hG
  have hF : pb_F (fun _ => True) H H := pb_F.rf
  have hl : lv_has ls 5 [(0, .ref (b)), (1, .int (iZ (((s : Nat) : Int)))), (2, .int (iZ (x))), (3, .int (iZ (y)))] := hl
  obtain ⟨hPb, hBo, hLr, hV8⟩ := id hS.1
  obtain ⟨fsr_, hRo⟩ : ∃ fs, pb_R w H (nV V s) 1 fs := by
    obtain ⟨-, L9, hR9, -⟩ := hS.2 s hs
    exact hR9.o
  refine pb_aload_n C dX1_contains_0 rfl (lv_at hl 0 rfl) ?_
  refine pb_iload_n C dX1_contains_1 rfl (lv_at hl 1 rfl) ?_
  refine pb_go_x (bc' := 1) (bs' := 6) (pb_runV (rest := []) C hG (met_X1_region l b sl pv V _ G hS s hs) hBo (ci := 0) rfl (lw_V q325 q327 qs4 q51 q328) ⟨rfl, hdX1_region⟩ rfl hl.1 rfl (Nat.le_of_ble_eq_true rfl) ⟨(Nat.le_of_ble_eq_true rfl), (Nat.le_of_ble_eq_true rfl)⟩ dX1_contains_2) (by omega) (by omega) ?_
  refine pb_astore C dX1_contains_5 hl (by decide) rfl fun ls hl => ?_
  have hl : lv_has ls 5 [(4, .ref ((nV V s))), (0, .ref (b)), (1, .int (iZ (((s : Nat) : Int)))), (2, .int (iZ (x))), (3, .int (iZ (y)))] := hl
  refine pb_iload_n C dX1_contains_7 rfl (lv_at hl 3 rfl) ?_
  refine pb_iload_n C dX1_contains_8 rfl (lv_at hl 4 rfl) ?_
  refine pb_go_x (bc' := 1) (bs' := 6) (pb_runS (rest := []) C hG (met_X1_isCell l x y hx hy) (lw_S q1050 q1038 q51 q1039) hdX1_isCell rfl hl.1 rfl (Nat.le_of_ble_eq_true rfl) ⟨(Nat.le_of_ble_eq_true rfl), (Nat.le_of_ble_eq_true rfl)⟩ dX1_contains_9) (by omega) (by omega) ?_
  refine pb_eq (g2 := F0 m_ 12 ls [.int (iZ (0))]) (congrArg (fun z9 => F0 m_ 12 ls [.int (iZ z9)]) (show (bI ((decide (0 ≤ x ∧ x ≤ 23) && decide (0 ≤ y ∧ y ≤ 23)))) = 0 from (bI_f (and_f hn)))) ?_
  exact pb_outX C hF hT (pb_runSX (rest := []) C hG (mex_X1_checkArgument l hlx) (lw_S q381 q382 q51 q383) hdX1_checkArgument rfl hl.1 rfl (Nat.le_of_ble_eq_true rfl) ⟨(Nat.le_of_ble_eq_true rfl), (Nat.le_of_ble_eq_true rfl)⟩ dX1_contains_12) (by omega) (by omega)

theorem met_X13_partAt_n {w : pb_W} (l : Launch) {H0 : Heap} (c t : Nat) (v0 v2 : Value) (V : List Nat) (RR : List Rct) (P ro : Nat → Nat) (Pr : Nat → Prop) (hO : pb_R w H0 c 8 [v0, .ref t, v2]) (hLr : Lr w H0 Pr t V) (hVn : V.length = RR.length) (hRO : RO w H0 V RR P) (hds : dsV V) (hFO : FO_ RR.length P ro) (x y : Int) (hx : -2000 ≤ x ∧ x ≤ 2000) (hy : -2000 ≤ y ∧ y ≤ 2000) (hk : paK RR ro x y RR.length = none) : pb_M w l yX13_partAt cX13_partAt 6 (some (.object "PolygonBoard$Rectangle")) 3 1 4 [.ref c, .int (iZ x), .int (iZ y)] H0 (pb_qq (fun v H1 => v = .null ∧ pb_F (fun q => q < H0.size) H0 H1)) := by
  refine pb_M.post (met_X13_partAt l c t v0 v2 V RR P ro Pr hO hLr hVn hRO hds hFO x y hx hy) ?_
  rintro v H1 ⟨z, rfl, rfl, hF⟩
  rw [hk]
  exact ⟨_, rfl, rfl, hF⟩
set_option maxHeartbeats 1000000 in
theorem mex_X1_keepPart_3 {w : pb_W} (l : Launch) {H0 : Heap} (hlx : l.stackTraces = false) (b sl : Nat) (pv : Value) (V : List Nat) (P : Nat → Prop) (G : Nat → Nat → Nat) (hS0 : Sq w H0 P b sl pv V G) (s : Nat) (hs : s < 8) (t : Nat) (ht : t < 8) (x y : Int) (hx : 0 ≤ x ∧ x ≤ 23) (hy : 0 ≤ y ∧ y ≤ 23) (hcell : ¬ gT (G s) (x, y)) : pb_X w l yX1_keepPart cX1_keepPart 8 (some .int) 10 (600) (3700) [.ref (b), .int (iZ (((s : Nat) : Int))), .int (iZ (x)), .int (iZ (y)), .int (iZ (((t : Nat) : Int)))] H0 (RJ16) := by
  refine pb_ofX (by decide +kernel) (Nat.le_of_ble_eq_true rfl) ?_
  intro p_ e_ s_ m_ ar_ bl_ me_ co_ ls C hh hG hl hT
  have hG0 := hG
  have hF : pb_F (fun _ => True) H0 H0 := pb_F.rf
  have hl : lv_has ls 8 [(0, .ref (b)), (1, .int (iZ (((s : Nat) : Int)))), (2, .int (iZ (x))), (3, .int (iZ (y))), (4, .int (iZ (((t : Nat) : Int))))] := hl
  have hzs := hG.1
  have hS := hS0.below
  have hFF : pb_F (fun q => q < H0.size) H0 H0 := pb_F.rf
  obtain ⟨hPb, hBo, hLr, hV8⟩ := id hS.1
  obtain ⟨hg, L, hR, hr⟩ := hS.2 s hs
  obtain ⟨fsr_, hRo⟩ := hR.o
  obtain ⟨hp1, hp2, hp3, hp4⟩ := rq_pre hg hr
  have hrq := rp_P288
  refine pb_aload_n C dX1_keepPart_0 rfl (lv_at hl 0 rfl) ?_
  refine pb_iload_n C dX1_keepPart_1 rfl (lv_at hl 1 rfl) ?_
  refine pb_iload C dX1_keepPart_2 (lv_at hl 4 rfl) ?_
  refine pb_go_x (bc' := 600) (bs' := 3700) (pb_runV (rest := []) C hG (met_X1_regionFor l b sl pv V _ G hS s hs t ht) hBo (ci := 0) rfl (lw_V q865 q867 qs12 q51 q868) ⟨rfl, hdX1_regionFor⟩ rfl hl.1 rfl (Nat.le_of_ble_eq_true rfl) ⟨(Nat.le_of_ble_eq_true rfl), (Nat.le_of_ble_eq_true rfl)⟩ dX1_keepPart_4) (by omega) (by omega) ?_
  refine pb_astore C dX1_keepPart_7 hl (by decide) rfl fun ls hl => ?_
  have hl : lv_has ls 8 [(5, .ref ((nV V s))), (0, .ref (b)), (1, .int (iZ (((s : Nat) : Int)))), (2, .int (iZ (x))), (3, .int (iZ (y))), (4, .int (iZ (((t : Nat) : Int))))] := hl
  refine pb_iload_n C dX1_keepPart_9 rfl (lv_at hl 3 rfl) ?_
  refine pb_iload_n C dX1_keepPart_10 rfl (lv_at hl 4 rfl) ?_
  refine pb_go_x (bc' := 600) (bs' := 3700) (pb_runS (rest := []) C hG (met_X1_isCell l x y (by omega) (by omega)) (lw_S q1050 q1038 q51 q1039) hdX1_isCell rfl hl.1 rfl (Nat.le_of_ble_eq_true rfl) ⟨(Nat.le_of_ble_eq_true rfl), (Nat.le_of_ble_eq_true rfl)⟩ dX1_keepPart_11) (by omega) (by omega) ?_
  refine pb_eq (g2 := F0 m_ 14 ls [.int (iZ (1))]) (congrArg (fun z9 => F0 m_ 14 ls [.int (iZ z9)]) (show (bI ((decide (0 ≤ x ∧ x ≤ 23) && decide (0 ≤ y ∧ y ≤ 23)))) = 1 from (bI_t (by rw [decide_eq_true hx, decide_eq_true hy]; rfl)))) ?_
  refine pb_go_n (bc' := 600) (bs' := 3700) (pb_runS (rest := []) C hG (met_X1_checkArgument l) (lw_S q381 q382 q51 q383) hdX1_checkArgument rfl hl.1 rfl (Nat.le_of_ble_eq_true rfl) ⟨(Nat.le_of_ble_eq_true rfl), (Nat.le_of_ble_eq_true rfl)⟩ dX1_keepPart_14) (by omega) (by omega) ?_
  refine pb_aload C dX1_keepPart_17 (lv_at hl 0 rfl) ?_
  refine pb_go_r (bc' := 600 - (3 + rpP 288 0)) (bs' := 3700 - (10 + rpQ 288 0)) (pb_runS (rest := []) C hG (met_X1_partsOf l (nV V s) _ L hR _ hg hr) (lw_S q1051 q1052 q51 q1053) hdX1_partsOf rfl hl.1 rfl (Nat.le_of_ble_eq_true rfl) ⟨(Nat.le_of_ble_eq_true rfl), (Nat.le_of_ble_eq_true rfl)⟩ dX1_keepPart_19) (by omega) (by omega) (fun c8 H1 hp_ => ?_)
  obtain ⟨hc8, hPw, hF1⟩ := hp_
  obtain ⟨⟨RR, ro, p⟩, hsc⟩ : ∃ z, z = scL paS L ([], fun _ => 0, 0) L.length := ⟨_, rfl⟩
  rw [← hsc] at hPw
  obtain ⟨t9, e9, V9, P9, hzc, hO9, hLb9, hVn, hRO, hds, hFO, hz9⟩ := id hPw
  have hs1 := hF1.1
  have hG := hG.kept (hF1.mono (fun q _ (hq : q < w.2.2.2) => show q < _ from by omega))
  have hFF := hFF.tr hF1
  have hlen : RR.length ≤ 288 := by
    have h7 := scL_len L ([], fun _ => 0, 0) L.length
    rw [← hsc] at h7
    have h6 := cntR_12 hg hr
    have h5 : RR.length = 0 + cntR L L.length := h7
    omega
  have hLr9 := (hLb9.r (by rw [hVn]; exact Nat.le_trans hlen (by decide))).mono (P' := fun _ => True) (fun _ _ _ => trivial)
  have hk0 := paK_none hg hr hsc.symm hcell
  have hPo9 := hO9.r
  refine pb_astore C dX1_keepPart_22 hl (by decide) rfl fun ls hl => ?_
  have hl : lv_has ls 8 [(6, .ref (c8)), (5, .ref ((nV V s))), (0, .ref (b)), (1, .int (iZ (((s : Nat) : Int)))), (2, .int (iZ (x))), (3, .int (iZ (y))), (4, .int (iZ (((t : Nat) : Int))))] := hl
  refine pb_aload C dX1_keepPart_24 (lv_at hl 0 rfl) ?_
  refine pb_iload_n C dX1_keepPart_26 rfl (lv_at hl 4 rfl) ?_
  refine pb_iload_n C dX1_keepPart_27 rfl (lv_at hl 5 rfl) ?_
  refine pb_go_q (bc' := 600 - (3 + rpP 288 0) - 1) (bs' := 3700 - (10 + rpQ 288 0) - 4) (pb_runV (rest := []) C hG (met_X13_partAt_n l c8 t9 _ _ V9 RR P9 ro _ hPo9 hLr9 hVn hRO hds hFO x y (by omega) (by omega) hk0) hPo9 (ci := 8) rfl (lw_V q1073 q1074 q1075 q85 q1076) ⟨rfl, hdX13_partAt⟩ rfl hl.1 rfl (Nat.le_of_ble_eq_true rfl) ⟨(Nat.le_of_ble_eq_true rfl), (Nat.le_of_ble_eq_true rfl)⟩ dX1_keepPart_28) (by omega) (by omega) (fun p8 H2 hp_ => ?_)
  obtain ⟨rfl, hF2⟩ := hp_
  have hs2 := hF2.1
  have hG := hG.kept (hF2.mono (fun q _ (hq : q < w.2.2.2) => show q < _ from by omega))
  have hFF := hFF.tr (hF2.mono (fun q _ (hq : q < H0.size) => show q < _ from by omega))
  refine pb_astoreN C dX1_keepPart_31 hl (by decide) rfl fun ls hl => ?_
  have hl : lv_has ls 8 [(7, .null), (6, .ref (c8)), (5, .ref ((nV V s))), (0, .ref (b)), (1, .int (iZ (((s : Nat) : Int)))), (2, .int (iZ (x))), (3, .int (iZ (y))), (4, .int (iZ (((t : Nat) : Int))))] := hl
  refine pb_aloadN C dX1_keepPart_33 (lv_at hl 0 rfl) ?_
  refine pb_ifnullN C dX1_keepPart_35 (tgt := 42) (by decide) ?_
  refine pb_ic C dX1_keepPart_42 ?_
  exact pb_outX C hFF.all hT (pb_runSX (rest := []) C hG (mex_X1_checkElement l hlx) (lw_S q1082 q1083 q51 q1084) hdX1_checkElement rfl hl.1 rfl (Nat.le_of_ble_eq_true rfl) ⟨(Nat.le_of_ble_eq_true rfl), (Nat.le_of_ble_eq_true rfl)⟩ dX1_keepPart_43) (by omega) (by omega)

set_option maxHeartbeats 1000000 in
theorem mex_X1_left_2 {w : pb_W} (l : Launch) {H : Heap} (hlx : l.stackTraces = false) (b sl : Nat) (pv : Value) (V : List Nat) (P : Nat → Prop) (G : Nat → Nat → Nat) (hS : Sq w H P b sl pv V G) (s : Nat) (hs : s < 8) (h0 : cnt (G s) = 0) : pb_X w l yX1_left cX1_left 2 (some .int) 8 (1) (6) [.ref (b), .int (iZ (((s : Nat) : Int)))] H (RJ16) := by
  refine pb_ofX (by decide +kernel) (Nat.le_of_ble_eq_true rfl) ?_
  intro p_ e_ s_ m_ ar_ bl_ me_ co_ ls C hh hG hl hT
  have hG0 := hG
  have hF : pb_F (fun _ => True) H H := pb_F.rf
  have hl : lv_has ls 2 [(0, .ref (b)), (1, .int (iZ (((s : Nat) : Int))))] := hl
  obtain ⟨hPb, hBo, hLr, hV8⟩ := id hS.1
  refine pb_aload_n C dX1_left_0 rfl (lv_at hl 0 rfl) ?_
  refine pb_iload_n C dX1_left_1 rfl (lv_at hl 1 rfl) ?_
  exact pb_outX C hF hT (pb_runVX (rest := []) C hG (mex_X1_checkedRegion_2 l hlx b sl pv V P G hS s hs h0) hBo (ci := 0) rfl (lw_V q1353 q1355 qs18 q51 q1356) ⟨rfl, hdX1_checkedRegion⟩ rfl hl.1 rfl (Nat.le_of_ble_eq_true rfl) ⟨(Nat.le_of_ble_eq_true rfl), (Nat.le_of_ble_eq_true rfl)⟩ dX1_left_2) (by omega) (by omega)

set_option maxHeartbeats 1000000 in
theorem mex_X1_right_2 {w : pb_W} (l : Launch) {H : Heap} (hlx : l.stackTraces = false) (b sl : Nat) (pv : Value) (V : List Nat) (P : Nat → Prop) (G : Nat → Nat → Nat) (hS : Sq w H P b sl pv V G) (s : Nat) (hs : s < 8) (h0 : cnt (G s) = 0) : pb_X w l yX1_right cX1_right 2 (some .int) 8 (1) (6) [.ref (b), .int (iZ (((s : Nat) : Int)))] H (RJ16) := by
  refine pb_ofX (by decide +kernel) (Nat.le_of_ble_eq_true rfl) ?_
  intro p_ e_ s_ m_ ar_ bl_ me_ co_ ls C hh hG hl hT
  have hG0 := hG
  have hF : pb_F (fun _ => True) H H := pb_F.rf
  have hl : lv_has ls 2 [(0, .ref (b)), (1, .int (iZ (((s : Nat) : Int))))] := hl
  obtain ⟨hPb, hBo, hLr, hV8⟩ := id hS.1
  refine pb_aload_n C dX1_right_0 rfl (lv_at hl 0 rfl) ?_
  refine pb_iload_n C dX1_right_1 rfl (lv_at hl 1 rfl) ?_
  exact pb_outX C hF hT (pb_runVX (rest := []) C hG (mex_X1_checkedRegion_2 l hlx b sl pv V P G hS s hs h0) hBo (ci := 0) rfl (lw_V q1353 q1355 qs18 q51 q1356) ⟨rfl, hdX1_checkedRegion⟩ rfl hl.1 rfl (Nat.le_of_ble_eq_true rfl) ⟨(Nat.le_of_ble_eq_true rfl), (Nat.le_of_ble_eq_true rfl)⟩ dX1_right_2) (by omega) (by omega)

set_option maxHeartbeats 1000000 in
theorem mex_X1_bottom_2 {w : pb_W} (l : Launch) {H : Heap} (hlx : l.stackTraces = false) (b sl : Nat) (pv : Value) (V : List Nat) (P : Nat → Prop) (G : Nat → Nat → Nat) (hS : Sq w H P b sl pv V G) (s : Nat) (hs : s < 8) (h0 : cnt (G s) = 0) : pb_X w l yX1_bottom cX1_bottom 2 (some .int) 8 (1) (6) [.ref (b), .int (iZ (((s : Nat) : Int)))] H (RJ16) := by
  refine pb_ofX (by decide +kernel) (Nat.le_of_ble_eq_true rfl) ?_
  intro p_ e_ s_ m_ ar_ bl_ me_ co_ ls C hh hG hl hT
  have hG0 := hG
  have hF : pb_F (fun _ => True) H H := pb_F.rf
  have hl : lv_has ls 2 [(0, .ref (b)), (1, .int (iZ (((s : Nat) : Int))))] := hl
  obtain ⟨hPb, hBo, hLr, hV8⟩ := id hS.1
  refine pb_aload_n C dX1_bottom_0 rfl (lv_at hl 0 rfl) ?_
  refine pb_iload_n C dX1_bottom_1 rfl (lv_at hl 1 rfl) ?_
  exact pb_outX C hF hT (pb_runVX (rest := []) C hG (mex_X1_checkedRegion_2 l hlx b sl pv V P G hS s hs h0) hBo (ci := 0) rfl (lw_V q1353 q1355 qs18 q51 q1356) ⟨rfl, hdX1_checkedRegion⟩ rfl hl.1 rfl (Nat.le_of_ble_eq_true rfl) ⟨(Nat.le_of_ble_eq_true rfl), (Nat.le_of_ble_eq_true rfl)⟩ dX1_bottom_2) (by omega) (by omega)

set_option maxHeartbeats 1000000 in
theorem mex_X1_top_2 {w : pb_W} (l : Launch) {H : Heap} (hlx : l.stackTraces = false) (b sl : Nat) (pv : Value) (V : List Nat) (P : Nat → Prop) (G : Nat → Nat → Nat) (hS : Sq w H P b sl pv V G) (s : Nat) (hs : s < 8) (h0 : cnt (G s) = 0) : pb_X w l yX1_top cX1_top 2 (some .int) 8 (1) (6) [.ref (b), .int (iZ (((s : Nat) : Int)))] H (RJ16) := by
  refine pb_ofX (by decide +kernel) (Nat.le_of_ble_eq_true rfl) ?_
  intro p_ e_ s_ m_ ar_ bl_ me_ co_ ls C hh hG hl hT
  have hG0 := hG
  have hF : pb_F (fun _ => True) H H := pb_F.rf
  have hl : lv_has ls 2 [(0, .ref (b)), (1, .int (iZ (((s : Nat) : Int))))] := hl
  obtain ⟨hPb, hBo, hLr, hV8⟩ := id hS.1
  refine pb_aload_n C dX1_top_0 rfl (lv_at hl 0 rfl) ?_
  refine pb_iload_n C dX1_top_1 rfl (lv_at hl 1 rfl) ?_
  exact pb_outX C hF hT (pb_runVX (rest := []) C hG (mex_X1_checkedRegion_2 l hlx b sl pv V P G hS s hs h0) hBo (ci := 0) rfl (lw_V q1353 q1355 qs18 q51 q1356) ⟨rfl, hdX1_checkedRegion⟩ rfl hl.1 rfl (Nat.le_of_ble_eq_true rfl) ⟨(Nat.le_of_ble_eq_true rfl), (Nat.le_of_ble_eq_true rfl)⟩ dX1_top_2) (by omega) (by omega)

set_option maxHeartbeats 1000000 in
theorem mex_X1_middleOf_2 {w : pb_W} (l : Launch) {H0 : Heap} (hlx : l.stackTraces = false) (b sl : Nat) (pv : Value) (V : List Nat) (P : Nat → Prop) (G : Nat → Nat → Nat) (hS0 : Sq w H0 P b sl pv V G) (s : Nat) (hs : s < 8) (h0 : cnt (G s) = 0) : pb_X w l yX1_middleOf cX1_middleOf 3 (some (.object "PolygonBoard$MiddleScan")) 7 (3) (14) [.ref (b), .int (iZ (((s : Nat) : Int)))] H0 (RJ21) := by
  refine pb_ofX (by decide +kernel) (Nat.le_of_ble_eq_true rfl) ?_
  intro p_ e_ s_ m_ ar_ bl_ me_ co_ ls C hh hG hl hT
  have hG0 := hG
  have hF : pb_F (fun _ => True) H0 H0 := pb_F.rf
  have hl : lv_has ls 3 [(0, .ref (b)), (1, .int (iZ (((s : Nat) : Int))))] := hl
  have hzs := hG.1
  have hS := hS0.below
  have hFF : pb_F (fun q => q < H0.size) H0 H0 := pb_F.rf
  obtain ⟨hPb, hBo, hLr, hV8⟩ := id hS.1
  obtain ⟨hg, L, hR, hr⟩ := hS.2 s hs
  obtain ⟨fsr_, hRo⟩ := hR.o
  obtain ⟨hp1, hp2, hp3, hp4⟩ := rq_pre hg hr
  refine pb_newE C in_X17 tyX17 tyX17_ok (ci := 7) rfl q1685 q1686 q92 (fs := [.int (iZ (0)), .int (iZ (0)), .int (iZ (0)), .int (iZ (0))]) (by decide) (bc' := 2) (bs' := 10) (by omega) (by omega) dX1_middleOf_0 fun a1_ H1_ ha_ hn_ hN1_ => ?_
  have hs1_ : H1_.size = H0.size + 1 := hn_.1
  have hG := hG.kept (hn_.f.mono (fun _ _ _ => trivial))
  have hBo := hBo.kept (hn_.2 _ hBo.lt)
  have hS := hS.kept (hn_.f.mono (fun _ _ _ => trivial))
  have hR := hR.kept (hn_.f.mono (fun _ _ _ => trivial))
  obtain ⟨fsr_, hRo⟩ := hR.o
  have hFF := hFF.tr (hn_.f.mono (fun _ _ _ => trivial))
  obtain rfl : a1_ = H0.size := by omega
  skip
  have hN := hN1_
  refine pb_dup C dX1_middleOf_3 rfl ?_
  refine pb_go_v (bc' := 2) (bs' := 10) (pb_runIN (rest := [.ref (H0.size)]) C hG (met_X17_init l H0.size) q1687 q1688 q92 q1689 rfl hdX17_init rfl hl.1 rfl (Nat.le_of_ble_eq_true rfl) ⟨(Nat.le_of_ble_eq_true rfl), (Nat.le_of_ble_eq_true rfl)⟩ dX1_middleOf_4) (by omega) (by omega) (fun H_ hp_ => ?_)
  have hp8 := hp_.symm
  subst hp8
  refine pb_astore_n C dX1_middleOf_7 rfl hl (by decide) rfl fun ls hl => ?_
  have hl : lv_has ls 3 [(2, .ref (H0.size)), (0, .ref (b)), (1, .int (iZ (((s : Nat) : Int))))] := hl
  refine pb_aload_n C dX1_middleOf_8 rfl (lv_at hl 0 rfl) ?_
  refine pb_aload_n C dX1_middleOf_9 rfl (lv_at hl 1 rfl) ?_
  refine pb_iload_n C dX1_middleOf_10 rfl (lv_at hl 2 rfl) ?_
  refine pb_go_x (bc' := 2) (bs' := 10) (pb_runV (rest := [.ref (H0.size)]) C hG (met_X1_region l b sl pv V _ G hS s hs) hBo (ci := 0) rfl (lw_V q325 q327 qs4 q51 q328) ⟨rfl, hdX1_region⟩ rfl hl.1 rfl (Nat.le_of_ble_eq_true rfl) ⟨(Nat.le_of_ble_eq_true rfl), (Nat.le_of_ble_eq_true rfl)⟩ dX1_middleOf_11) (by omega) (by omega) ?_
  refine pb_go_v (bc' := 1) (bs' := 6) (pb_runO (rest := []) C hG (met_X7_scan_X17 l H0.size (nV V s) (fun q => q < H0.size) L hR (fun h9 => absurd (show H0.size < H0.size from h9) (Nat.lt_irrefl _)) hp1 hp2 (0, 0, 0, 0) (by omega) hN) (x := ⟨"PolygonBoard$MiddleScan", "scan", "(LPolygonBoard$Region;)V"⟩) (owner := "PolygonBoard$Scan") hN.r (ci := 7) rfl q1704 q1705 q517 q518 q1706 q517 q74 q518 (n := 1) ⟨by decide, by decide, by decide +kernel⟩ rfl hl.1 rfl (Nat.le_of_ble_eq_true rfl) ⟨(Nat.le_of_ble_eq_true rfl), (Nat.le_of_ble_eq_true rfl)⟩ dX1_middleOf_14) (by omega) (by omega) (fun H_ hp_ => ?_)
  obtain ⟨hO9, hF9⟩ := hp_
  have hG := hG.kept (hF9.mono (fun q _ (hq : q < w.2.2.2) => (⟨by omega, by omega⟩ : q < _ ∧ q ≠ _)))
  have hFF := hFF.tr (hF9.mono (fun q _ (hq : q < H0.size) => (⟨by omega, by omega⟩ : q < _ ∧ q ≠ _)))
  have hS := hS0.below.kept hFF
  obtain ⟨-, hBo, -, -⟩ := id hS.1
  refine pb_aload_n C dX1_middleOf_17 rfl (lv_at hl 0 rfl) ?_
  refine pb_getN C in_X17 hO9.r (ci := 7) rfl 3 (by decide) q1696 (fun _ h9 => h9) (v := .int (iZ ((scL miS L (0, 0, 0, 0) L.length).2.2.2))) rfl dX1_middleOf_18 ?_
  have hmid := mid_law hg hr
  have hm3 : (scL miS L (0, 0, 0, 0) L.length).2.2.2 = ((cnt (G s) : Nat) : Int) := congrArg (fun z => z.2.2) hmid
  refine pb_if_ne C dX1_middleOf_21 (x := (scL miS L (0, 0, 0, 0) L.length).2.2.2) (tgt := 32) (by decide) (by rw [hm3, h0]; decide) (fun c21_ => ?_) (fun c21_ => ?_)
  · exact absurd (by rw [hm3, h0]; rfl) c21_
  · exact pb_throw C hlx hh hG0 hFF.all hT xw_J21 hl.1 (by decide) (Nat.le_of_ble_eq_true rfl) (by omega) (by omega) dX1_middleOf_24 dX1_middleOf_27 dX1_middleOf_28 dX1_middleOf_31

set_option maxHeartbeats 1000000 in
theorem mex_X1_middleX_2 {w : pb_W} (l : Launch) {H : Heap} (hlx : l.stackTraces = false) (b sl : Nat) (pv : Value) (V : List Nat) (P : Nat → Prop) (G : Nat → Nat → Nat) (hS : Sq w H P b sl pv V G) (s : Nat) (hs : s < 8) (h0 : cnt (G s) = 0) : pb_X w l yX1_middleX cX1_middleX 3 (some .double) 8 (3) (14) [.ref (b), .int (iZ (((s : Nat) : Int)))] H (RJ21) := by
  refine pb_ofX (by decide +kernel) (Nat.le_of_ble_eq_true rfl) ?_
  intro p_ e_ s_ m_ ar_ bl_ me_ co_ ls C hh hG hl hT
  have hG0 := hG
  have hF : pb_F (fun _ => True) H H := pb_F.rf
  have hl : lv_has ls 3 [(0, .ref (b)), (1, .int (iZ (((s : Nat) : Int))))] := hl
  obtain ⟨hPb, hBo, hLr, hV8⟩ := id hS.1
  refine pb_aload_n C dX1_middleX_0 rfl (lv_at hl 0 rfl) ?_
  refine pb_iload_n C dX1_middleX_1 rfl (lv_at hl 1 rfl) ?_
  exact pb_outX C hF hT (pb_runVX (rest := []) C hG (mex_X1_middleOf_2 l hlx b sl pv V P G hS s hs h0) hBo (ci := 0) rfl (lw_V q1681 q1683 qs26 q51 q1684) ⟨rfl, hdX1_middleOf⟩ rfl hl.1 rfl (Nat.le_of_ble_eq_true rfl) ⟨(Nat.le_of_ble_eq_true rfl), (Nat.le_of_ble_eq_true rfl)⟩ dX1_middleX_2) (by omega) (by omega)

set_option maxHeartbeats 1000000 in
theorem mex_X1_middleY_2 {w : pb_W} (l : Launch) {H : Heap} (hlx : l.stackTraces = false) (b sl : Nat) (pv : Value) (V : List Nat) (P : Nat → Prop) (G : Nat → Nat → Nat) (hS : Sq w H P b sl pv V G) (s : Nat) (hs : s < 8) (h0 : cnt (G s) = 0) : pb_X w l yX1_middleY cX1_middleY 3 (some .double) 8 (3) (14) [.ref (b), .int (iZ (((s : Nat) : Int)))] H (RJ21) := by
  refine pb_ofX (by decide +kernel) (Nat.le_of_ble_eq_true rfl) ?_
  intro p_ e_ s_ m_ ar_ bl_ me_ co_ ls C hh hG hl hT
  have hG0 := hG
  have hF : pb_F (fun _ => True) H H := pb_F.rf
  have hl : lv_has ls 3 [(0, .ref (b)), (1, .int (iZ (((s : Nat) : Int))))] := hl
  obtain ⟨hPb, hBo, hLr, hV8⟩ := id hS.1
  refine pb_aload_n C dX1_middleY_0 rfl (lv_at hl 0 rfl) ?_
  refine pb_iload_n C dX1_middleY_1 rfl (lv_at hl 1 rfl) ?_
  exact pb_outX C hF hT (pb_runVX (rest := []) C hG (mex_X1_middleOf_2 l hlx b sl pv V P G hS s hs h0) hBo (ci := 0) rfl (lw_V q1681 q1683 qs26 q51 q1684) ⟨rfl, hdX1_middleOf⟩ rfl hl.1 rfl (Nat.le_of_ble_eq_true rfl) ⟨(Nat.le_of_ble_eq_true rfl), (Nat.le_of_ble_eq_true rfl)⟩ dX1_middleY_2) (by omega) (by omega)

set_option maxHeartbeats 1000000 in
theorem mex_X1_fullness_2 {w : pb_W} (l : Launch) {H : Heap} (hlx : l.stackTraces = false) (b sl : Nat) (pv : Value) (V : List Nat) (P : Nat → Prop) (G : Nat → Nat → Nat) (hS : Sq w H P b sl pv V G) (s : Nat) (hs : s < 8) (h0 : cnt (G s) = 0) : pb_X w l yX1_fullness cX1_fullness 5 (some .float) 8 (3) (14) [.ref (b), .int (iZ (((s : Nat) : Int)))] H (RJ21) := by
  refine pb_ofX (by decide +kernel) (Nat.le_of_ble_eq_true rfl) ?_
  intro p_ e_ s_ m_ ar_ bl_ me_ co_ ls C hh hG hl hT
  have hG0 := hG
  have hF : pb_F (fun _ => True) H H := pb_F.rf
  have hl : lv_has ls 5 [(0, .ref (b)), (1, .int (iZ (((s : Nat) : Int))))] := hl
  obtain ⟨hPb, hBo, hLr, hV8⟩ := id hS.1
  refine pb_aload_n C dX1_fullness_0 rfl (lv_at hl 0 rfl) ?_
  refine pb_iload_n C dX1_fullness_1 rfl (lv_at hl 1 rfl) ?_
  exact pb_outX C hF hT (pb_runVX (rest := []) C hG (mex_X1_middleOf_2 l hlx b sl pv V P G hS s hs h0) hBo (ci := 0) rfl (lw_V q1681 q1683 qs26 q51 q1684) ⟨rfl, hdX1_middleOf⟩ rfl hl.1 rfl (Nat.le_of_ble_eq_true rfl) ⟨(Nat.le_of_ble_eq_true rfl), (Nat.le_of_ble_eq_true rfl)⟩ dX1_fullness_2) (by omega) (by omega)

set_option maxHeartbeats 1000000 in
theorem mex_X1_outline_2 {w : pb_W} (l : Launch) {H0 : Heap} (hlx : l.stackTraces = false) (b sl : Nat) (pv : Value) (V : List Nat) (P : Nat → Prop) (G : Nat → Nat → Nat) (hS0 : Sq w H0 P b sl pv V G) (s : Nat) (hs : s < 8) (q : Int) (hq9 : -2147483648 ≤ q ∧ q ≤ 2147483647) (hq : ¬ (0 ≤ q ∧ q < (((outs (G s) 2500).length : Nat) : Int))) : pb_X w l yX1_outline cX1_outline 4 (some (.object "PolygonBoard$Outline")) 10 (3779 + lC 312 + 1) (25127 + lS 312 + 6) [.ref (b), .int (iZ (((s : Nat) : Int))), .int (iZ (q))] H0 (RJ16) := by
  refine pb_ofX (by decide +kernel) (Nat.le_of_ble_eq_true rfl) ?_
  intro p_ e_ s_ m_ ar_ bl_ me_ co_ ls C hh hG hl hT
  have hG0 := hG
  have hF : pb_F (fun _ => True) H0 H0 := pb_F.rf
  have hl : lv_has ls 4 [(0, .ref (b)), (1, .int (iZ (((s : Nat) : Int)))), (2, .int (iZ (q)))] := hl
  have hzs := hG.1
  have hS := hS0.below
  have hFF : pb_F (fun q => q < H0.size) H0 H0 := pb_F.rf
  obtain ⟨hPb, hBo, hLr, hV8⟩ := id hS.1
  obtain ⟨hg, L, hR, hr⟩ := hS.2 s hs
  obtain ⟨fsr_, hRo⟩ := hR.o
  obtain ⟨hp1, hp2, hp3, hp4⟩ := rq_pre hg hr
  refine pb_newE C in_X14 tyX14 tyX14_ok (ci := 12) rfl q1224 q1225 q86 (fs := [.null, .null, .null]) (by decide) (bc' := 3779 + lC 312 + 1 - 1) (bs' := 25127 + lS 312 + 6 - 3) (by omega) (by omega) dX1_outline_0 fun a1_ H1_ ha_ hn_ hN1_ => ?_
  have hs1_ : H1_.size = H0.size + 1 := hn_.1
  have hG := hG.kept (hn_.f.mono (fun _ _ _ => trivial))
  have hBo := hBo.kept (hn_.2 _ hBo.lt)
  have hS := hS.kept (hn_.f.mono (fun _ _ _ => trivial))
  have hR := hR.kept (hn_.f.mono (fun _ _ _ => trivial))
  obtain ⟨fsr_, hRo⟩ := hR.o
  have hFF := hFF.tr (hn_.f.mono (fun _ _ _ => trivial))
  obtain rfl : a1_ = H0.size := by omega
  skip
  have hN := hN1_
  refine pb_dup C dX1_outline_3 rfl ?_
  refine pb_aload_n C dX1_outline_4 rfl (lv_at hl 0 rfl) ?_
  refine pb_iload_n C dX1_outline_5 rfl (lv_at hl 1 rfl) ?_
  refine pb_go_x (bc' := 3779 + lC 312 + 1 - 1) (bs' := 25127 + lS 312 + 6 - 3) (pb_runV (rest := [.ref (H0.size), .ref (H0.size)]) C hG (met_X1_region l b sl pv V _ G hS s hs) hBo (ci := 0) rfl (lw_V q325 q327 qs4 q51 q328) ⟨rfl, hdX1_region⟩ rfl hl.1 rfl (Nat.le_of_ble_eq_true rfl) ⟨(Nat.le_of_ble_eq_true rfl), (Nat.le_of_ble_eq_true rfl)⟩ dX1_outline_6) (by omega) (by omega) ?_
  refine pb_go_v (bc' := 3779 + lC 312 + 1 - 1 - (28 + 3750 + lC 312)) (bs' := 25127 + lS 312 + 6 - 3 - (2624 + 22500 + lS 312)) (pb_runI (rest := [.ref (H0.size)]) C hG (met_X14_init l 0 H0.size (nV V s) (fun q => q < H0.size) L (by omega) hR (fun h9 => absurd (show H0.size < H0.size from h9) (Nat.lt_irrefl _)) hN hp3 (row_le hr.1)) q1226 q1227 q86 q1228 rfl hdX14_init rfl hl.1 rfl (Nat.le_of_ble_eq_true rfl) ⟨(Nat.le_of_ble_eq_true rfl), (Nat.le_of_ble_eq_true rfl)⟩ dX1_outline_9) (by omega) (by omega) (fun H_ hp_ => ?_)
  obtain ⟨g9, hge, hT, hF1⟩ := hp_
  rw [ofG_law hg hr] at hge
  subst hge
  obtain ⟨c9, u9, ol, V9, hPt, hTo, hLr9, hOL⟩ := hT
  have hG := hG.kept (hF1.mono (fun q _ (hq : q < w.2.2.2) => (⟨by omega, by omega⟩ : q < _ ∧ q ≠ _)))
  have hFF := hFF.tr (hF1.mono (fun q _ (hq : q < H0.size) => (⟨by omega, by omega⟩ : q < _ ∧ q ≠ _)))
  have hLr9 := hLr9.below
  have hOL : OL w H_ (fun q => q < H_.size) (G s) V9 (outs (G s) 2500) := hOL.mono (fun q h9 _ => h9)
  obtain ⟨fsl9_, hLo9⟩ := hLr9.o
  have hn9 := hLr9.n
  have hV9 := hOL.1
  refine pb_getN C in_X14 hTo (ci := 12) rfl 2 (by decide) q1308 (fun _ h9 => h9) (v := .ref (ol)) rfl dX1_outline_12 ?_
  refine pb_astore_n C dX1_outline_15 rfl hl (by decide) rfl fun ls hl => ?_
  have hl : lv_has ls 4 [(3, .ref (ol)), (0, .ref (b)), (1, .int (iZ (((s : Nat) : Int)))), (2, .int (iZ (q)))] := hl
  refine pb_iload_n C dX1_outline_16 rfl (lv_at hl 3 rfl) ?_
  refine pb_ic C dX1_outline_17 ?_
  refine pb_aload_n C dX1_outline_18 rfl (lv_at hl 0 rfl) ?_
  refine pb_go_x (bc' := 3779 + lC 312 + 1 - 1 - (28 + 3750 + lC 312)) (bs' := 25127 + lS 312 + 6 - 3 - (2624 + 22500 + lS 312)) (pb_runF (n := 0) (rest := [.int (iZ (0)), .int (iZ (q))]) C hG (x := ⟨"java/util/List", "size", "()I"⟩) (met_J2_size l ol _ V9 hLr9) hLo9 (ci := 15) rfl (by decide) q1188 q444 q446 q54 q448 (by decide +kernel) rfl hl.1 rfl (Nat.le_of_ble_eq_true rfl) ⟨(Nat.le_of_ble_eq_true rfl), (Nat.le_of_ble_eq_true rfl)⟩ dX1_outline_19) (by omega) (by omega) ?_
  refine pb_ic C dX1_outline_24 ?_
  refine pb_isub C dX1_outline_25 ?_
  refine pb_go_x (bc' := 3779 + lC 312 + 1 - 1 - (28 + 3750 + lC 312)) (bs' := 25127 + lS 312 + 6 - 3 - (2624 + 22500 + lS 312)) (pb_runS (rest := []) C hG (met_X1_isBetween l q 0 (((V9.length : Nat) : Int) - 1) hq9 (by decide) (by omega)) (lw_S q332 q333 q51 q334) hdX1_isBetween rfl hl.1 rfl (Nat.le_of_ble_eq_true rfl) ⟨(Nat.le_of_ble_eq_true rfl), (Nat.le_of_ble_eq_true rfl)⟩ dX1_outline_26) (by omega) (by omega) ?_
  refine pb_eq (g2 := F0 m_ 29 ls [.int (iZ (0))]) (congrArg (fun z9 => F0 m_ 29 ls [.int (iZ z9)]) (show (bI (decide (0 ≤ q ∧ q ≤ ((V9.length : Nat) : Int) - 1))) = 0 from (bI_f (decide_eq_false (by omega))))) ?_
  exact pb_outX C hFF.all hT (pb_runSX (rest := []) C hG (mex_X1_checkElement l hlx) (lw_S q1082 q1083 q51 q1084) hdX1_checkElement rfl hl.1 rfl (Nat.le_of_ble_eq_true rfl) ⟨(Nat.le_of_ble_eq_true rfl), (Nat.le_of_ble_eq_true rfl)⟩ dX1_outline_29) (by omega) (by omega)

set_option maxHeartbeats 1000000 in
theorem mex_X1_cornerCount_2 {w : pb_W} (l : Launch) {H : Heap} (hlx : l.stackTraces = false) (b sl : Nat) (pv : Value) (V : List Nat) (P : Nat → Prop) (G : Nat → Nat → Nat) (hS : Sq w H P b sl pv V G) (s : Nat) (hs : s < 8) (q : Int) (hq9 : -2147483648 ≤ q ∧ q ≤ 2147483647) (hq : ¬ (0 ≤ q ∧ q < (((outs (G s) 2500).length : Nat) : Int))) : pb_X w l yX1_cornerCount cX1_cornerCount 3 (some .int) 11 (3779 + lC 312 + 1) (25127 + lS 312 + 6) [.ref (b), .int (iZ (((s : Nat) : Int))), .int (iZ (q))] H (RJ16) := by
  refine pb_ofX (by decide +kernel) (Nat.le_of_ble_eq_true rfl) ?_
  intro p_ e_ s_ m_ ar_ bl_ me_ co_ ls C hh hG hl hT
  have hG0 := hG
  have hF : pb_F (fun _ => True) H H := pb_F.rf
  have hl : lv_has ls 3 [(0, .ref (b)), (1, .int (iZ (((s : Nat) : Int)))), (2, .int (iZ (q)))] := hl
  obtain ⟨hPb, hBo, hLr, hV8⟩ := id hS.1
  refine pb_aload_n C dX1_cornerCount_0 rfl (lv_at hl 0 rfl) ?_
  refine pb_iload_n C dX1_cornerCount_1 rfl (lv_at hl 1 rfl) ?_
  refine pb_iload_n C dX1_cornerCount_2 rfl (lv_at hl 2 rfl) ?_
  exact pb_outX C hF hT (pb_runVX (rest := []) C hG (mex_X1_outline_2 l hlx b sl pv V P G hS s hs q hq9 hq) hBo (ci := 0) rfl (lw_V q1599 q1601 qs24 q51 q1602) ⟨rfl, hdX1_outline⟩ rfl hl.1 rfl (Nat.le_of_ble_eq_true rfl) ⟨(Nat.le_of_ble_eq_true rfl), (Nat.le_of_ble_eq_true rfl)⟩ dX1_cornerCount_3) (by omega) (by omega)

set_option maxHeartbeats 1000000 in
theorem mex_X1_signedArea_2 {w : pb_W} (l : Launch) {H : Heap} (hlx : l.stackTraces = false) (b sl : Nat) (pv : Value) (V : List Nat) (P : Nat → Prop) (G : Nat → Nat → Nat) (hS : Sq w H P b sl pv V G) (s : Nat) (hs : s < 8) (q : Int) (hq9 : -2147483648 ≤ q ∧ q ≤ 2147483647) (hq : ¬ (0 ≤ q ∧ q < (((outs (G s) 2500).length : Nat) : Int))) : pb_X w l yX1_signedArea cX1_signedArea 3 (some .int) 11 (3779 + lC 312 + 1) (25127 + lS 312 + 6) [.ref (b), .int (iZ (((s : Nat) : Int))), .int (iZ (q))] H (RJ16) := by
  refine pb_ofX (by decide +kernel) (Nat.le_of_ble_eq_true rfl) ?_
  intro p_ e_ s_ m_ ar_ bl_ me_ co_ ls C hh hG hl hT
  have hG0 := hG
  have hF : pb_F (fun _ => True) H H := pb_F.rf
  have hl : lv_has ls 3 [(0, .ref (b)), (1, .int (iZ (((s : Nat) : Int)))), (2, .int (iZ (q)))] := hl
  obtain ⟨hPb, hBo, hLr, hV8⟩ := id hS.1
  refine pb_aload_n C dX1_signedArea_0 rfl (lv_at hl 0 rfl) ?_
  refine pb_iload_n C dX1_signedArea_1 rfl (lv_at hl 1 rfl) ?_
  refine pb_iload_n C dX1_signedArea_2 rfl (lv_at hl 2 rfl) ?_
  exact pb_outX C hF hT (pb_runVX (rest := []) C hG (mex_X1_outline_2 l hlx b sl pv V P G hS s hs q hq9 hq) hBo (ci := 0) rfl (lw_V q1599 q1601 qs24 q51 q1602) ⟨rfl, hdX1_outline⟩ rfl hl.1 rfl (Nat.le_of_ble_eq_true rfl) ⟨(Nat.le_of_ble_eq_true rfl), (Nat.le_of_ble_eq_true rfl)⟩ dX1_signedArea_3) (by omega) (by omega)

set_option maxHeartbeats 1000000 in
theorem mex_X1_outlineWith_2 {w : pb_W} (l : Launch) {H : Heap} (hlx : l.stackTraces = false) (b sl : Nat) (pv : Value) (V : List Nat) (P : Nat → Prop) (G : Nat → Nat → Nat) (hS : Sq w H P b sl pv V G) (s : Nat) (hs : s < 8) (q : Int) (hq9 : -2147483648 ≤ q ∧ q ≤ 2147483647) (hq : ¬ (0 ≤ q ∧ q < (((outs (G s) 2500).length : Nat) : Int))) (c : Int) : pb_X w l yX1_outlineWith cX1_outlineWith 5 (some (.object "PolygonBoard$Outline")) 11 (3779 + lC 312 + 1) (25127 + lS 312 + 6) [.ref (b), .int (iZ (((s : Nat) : Int))), .int (iZ (q)), .int (iZ (c))] H (RJ16) := by
  refine pb_ofX (by decide +kernel) (Nat.le_of_ble_eq_true rfl) ?_
  intro p_ e_ s_ m_ ar_ bl_ me_ co_ ls C hh hG hl hT
  have hG0 := hG
  have hF : pb_F (fun _ => True) H H := pb_F.rf
  have hl : lv_has ls 5 [(0, .ref (b)), (1, .int (iZ (((s : Nat) : Int)))), (2, .int (iZ (q))), (3, .int (iZ (c)))] := hl
  obtain ⟨hPb, hBo, hLr, hV8⟩ := id hS.1
  refine pb_aload_n C dX1_outlineWith_0 rfl (lv_at hl 0 rfl) ?_
  refine pb_iload_n C dX1_outlineWith_1 rfl (lv_at hl 1 rfl) ?_
  refine pb_iload_n C dX1_outlineWith_2 rfl (lv_at hl 2 rfl) ?_
  exact pb_outX C hF hT (pb_runVX (rest := []) C hG (mex_X1_outline_2 l hlx b sl pv V P G hS s hs q hq9 hq) hBo (ci := 0) rfl (lw_V q1599 q1601 qs24 q51 q1602) ⟨rfl, hdX1_outline⟩ rfl hl.1 rfl (Nat.le_of_ble_eq_true rfl) ⟨(Nat.le_of_ble_eq_true rfl), (Nat.le_of_ble_eq_true rfl)⟩ dX1_outlineWith_3) (by omega) (by omega)

set_option maxHeartbeats 1000000 in
theorem mex_X1_outlineWith_3 {w : pb_W} (l : Launch) {H0 : Heap} (hlx : l.stackTraces = false) (b sl : Nat) (pv : Value) (V : List Nat) (P : Nat → Prop) (G : Nat → Nat → Nat) (hS0 : Sq w H0 P b sl pv V G) (s : Nat) (hs : s < 8) (q : Nat) (d : Nat × Nat × Nat) (hq : (outs (G s) 2500)[q]? = some d) (c : Int) (hc9 : -2147483648 ≤ c ∧ c ≤ 2147483647) (hc : ¬ (0 ≤ c ∧ c < (((crn (G s) d).length : Nat) : Int))) : pb_X w l yX1_outlineWith cX1_outlineWith 5 (some (.object "PolygonBoard$Outline")) 11 (3779 + lC 312 + 1) (25127 + lS 312 + 6) [.ref (b), .int (iZ (((s : Nat) : Int))), .int (iZ (((q : Nat) : Int))), .int (iZ (c))] H0 (RJ16) := by
  refine pb_ofX (by decide +kernel) (Nat.le_of_ble_eq_true rfl) ?_
  intro p_ e_ s_ m_ ar_ bl_ me_ co_ ls C hh hG hl hT
  have hG0 := hG
  have hF : pb_F (fun _ => True) H0 H0 := pb_F.rf
  have hl : lv_has ls 5 [(0, .ref (b)), (1, .int (iZ (((s : Nat) : Int)))), (2, .int (iZ (((q : Nat) : Int)))), (3, .int (iZ (c)))] := hl
  have hzs := hG.1
  have hS := hS0.below
  have hFF : pb_F (fun q => q < H0.size) H0 H0 := pb_F.rf
  obtain ⟨hPb, hBo, hLr, hV8⟩ := id hS.1
  obtain ⟨hg, L, hR, hr⟩ := hS.2 s hs
  obtain ⟨fsr_, hRo⟩ := hR.o
  obtain ⟨hp1, hp2, hp3, hp4⟩ := rq_pre hg hr
  refine pb_aload_n C dX1_outlineWith_0 rfl (lv_at hl 0 rfl) ?_
  refine pb_iload_n C dX1_outlineWith_1 rfl (lv_at hl 1 rfl) ?_
  refine pb_iload_n C dX1_outlineWith_2 rfl (lv_at hl 2 rfl) ?_
  refine pb_go_r (bc' := 3779 + lC 312 + 1 - (3779 + lC 312)) (bs' := 25127 + lS 312 + 6 - (25127 + lS 312)) (pb_runV (rest := []) C hG (met_X1_outline l b sl pv V _ G hS s hs q d hq) hBo (ci := 0) rfl (lw_V q1599 q1601 qs24 q51 q1602) ⟨rfl, hdX1_outline⟩ rfl hl.1 rfl (Nat.le_of_ble_eq_true rfl) ⟨(Nat.le_of_ble_eq_true rfl), (Nat.le_of_ble_eq_true rfl)⟩ dX1_outlineWith_3) (by omega) (by omega) (fun o9 H_ hp_ => ?_)
  obtain ⟨hOg, hF1⟩ := hp_
  have hG := hG.kept (hF1.mono (fun q _ (hq : q < w.2.2.2) => show q < _ from by omega))
  obtain ⟨xa, ya, hPo, hOo, hxa, hya, h24⟩ := id hOg
  obtain ⟨VX, hVX⟩ : ∃ VX, VX = (crn (G s) d).map fun d => cB w d.1 := ⟨_, rfl⟩
  obtain ⟨VY, hVY⟩ : ∃ VY, VY = (crn (G s) d).map fun d => cB w d.2.1 := ⟨_, rfl⟩
  rw [← hVX] at hxa
  rw [← hVY] at hya
  have hlx9 : VX.length = (crn (G s) d).length := by rw [hVX, List.length_map]
  have hly : VY.length = (crn (G s) d).length := by rw [hVY, List.length_map]
  have hnx := hxa.n
  obtain ⟨fsx_, hXo⟩ := hxa.o
  obtain ⟨fsy_, hYo⟩ := hya.o
  have hFF := hF1
  refine pb_astore C dX1_outlineWith_6 hl (by decide) rfl fun ls hl => ?_
  have hl : lv_has ls 5 [(4, .ref (o9)), (0, .ref (b)), (1, .int (iZ (((s : Nat) : Int)))), (2, .int (iZ (((q : Nat) : Int)))), (3, .int (iZ (c)))] := hl
  refine pb_iload_n C dX1_outlineWith_8 rfl (lv_at hl 4 rfl) ?_
  refine pb_ic C dX1_outlineWith_9 ?_
  refine pb_aload C dX1_outlineWith_10 (lv_at hl 0 rfl) ?_
  refine pb_getN C in_X15 hOo (ci := 13) rfl 0 (by decide) q1251 (fun _ h9 => h9) (v := .ref (xa)) rfl dX1_outlineWith_12 ?_
  refine pb_go_x (bc' := 3779 + lC 312 + 1 - (3779 + lC 312)) (bs' := 25127 + lS 312 + 6 - (25127 + lS 312)) (pb_runF (n := 0) (rest := [.int (iZ (0)), .int (iZ (c))]) C hG (x := ⟨"java/util/List", "size", "()I"⟩) (met_J2_size l xa _ VX hxa) hXo (ci := 15) rfl (by decide) q1188 q444 q446 q54 q448 (by decide +kernel) rfl hl.1 rfl (Nat.le_of_ble_eq_true rfl) ⟨(Nat.le_of_ble_eq_true rfl), (Nat.le_of_ble_eq_true rfl)⟩ dX1_outlineWith_15) (by omega) (by omega) ?_
  refine pb_ic C dX1_outlineWith_20 ?_
  refine pb_isub C dX1_outlineWith_21 ?_
  refine pb_go_x (bc' := 3779 + lC 312 + 1 - (3779 + lC 312)) (bs' := 25127 + lS 312 + 6 - (25127 + lS 312)) (pb_runS (rest := []) C hG (met_X1_isBetween l c 0 (((VX.length : Nat) : Int) - 1) hc9 (by decide) (by omega)) (lw_S q332 q333 q51 q334) hdX1_isBetween rfl hl.1 rfl (Nat.le_of_ble_eq_true rfl) ⟨(Nat.le_of_ble_eq_true rfl), (Nat.le_of_ble_eq_true rfl)⟩ dX1_outlineWith_22) (by omega) (by omega) ?_
  refine pb_eq (g2 := F0 m_ 25 ls [.int (iZ (0))]) (congrArg (fun z9 => F0 m_ 25 ls [.int (iZ z9)]) (show (bI (decide (0 ≤ c ∧ c ≤ ((VX.length : Nat) : Int) - 1))) = 0 from (bI_f (decide_eq_false (by omega))))) ?_
  exact pb_outX C hFF.all hT (pb_runSX (rest := []) C hG (mex_X1_checkElement l hlx) (lw_S q1082 q1083 q51 q1084) hdX1_checkElement rfl hl.1 rfl (Nat.le_of_ble_eq_true rfl) ⟨(Nat.le_of_ble_eq_true rfl), (Nat.le_of_ble_eq_true rfl)⟩ dX1_outlineWith_25) (by omega) (by omega)

set_option maxHeartbeats 1000000 in
theorem mex_X1_cornerX_2 {w : pb_W} (l : Launch) {H : Heap} (hlx : l.stackTraces = false) (b sl : Nat) (pv : Value) (V : List Nat) (P : Nat → Prop) (G : Nat → Nat → Nat) (hS : Sq w H P b sl pv V G) (s : Nat) (hs : s < 8) (q : Int) (hq9 : -2147483648 ≤ q ∧ q ≤ 2147483647) (hq : ¬ (0 ≤ q ∧ q < (((outs (G s) 2500).length : Nat) : Int))) (c : Int) : pb_X w l yX1_cornerX cX1_cornerX 4 (some .int) 12 (3779 + lC 312 + 1) (25127 + lS 312 + 6) [.ref (b), .int (iZ (((s : Nat) : Int))), .int (iZ (q)), .int (iZ (c))] H (RJ16) := by
  refine pb_ofX (by decide +kernel) (Nat.le_of_ble_eq_true rfl) ?_
  intro p_ e_ s_ m_ ar_ bl_ me_ co_ ls C hh hG hl hT
  have hG0 := hG
  have hF : pb_F (fun _ => True) H H := pb_F.rf
  have hl : lv_has ls 4 [(0, .ref (b)), (1, .int (iZ (((s : Nat) : Int)))), (2, .int (iZ (q))), (3, .int (iZ (c)))] := hl
  obtain ⟨hPb, hBo, hLr, hV8⟩ := id hS.1
  refine pb_aload_n C dX1_cornerX_0 rfl (lv_at hl 0 rfl) ?_
  refine pb_iload_n C dX1_cornerX_1 rfl (lv_at hl 1 rfl) ?_
  refine pb_iload_n C dX1_cornerX_2 rfl (lv_at hl 2 rfl) ?_
  refine pb_iload_n C dX1_cornerX_3 rfl (lv_at hl 3 rfl) ?_
  exact pb_outX C hF hT (pb_runVX (rest := []) C hG (mex_X1_outlineWith_2 l hlx b sl pv V P G hS s hs q hq9 hq c) hBo (ci := 0) rfl (lw_V q1610 q1612 qs25 q51 q1613) ⟨rfl, hdX1_outlineWith⟩ rfl hl.1 rfl (Nat.le_of_ble_eq_true rfl) ⟨(Nat.le_of_ble_eq_true rfl), (Nat.le_of_ble_eq_true rfl)⟩ dX1_cornerX_4) (by omega) (by omega)

set_option maxHeartbeats 1000000 in
theorem mex_X1_cornerX_3 {w : pb_W} (l : Launch) {H : Heap} (hlx : l.stackTraces = false) (b sl : Nat) (pv : Value) (V : List Nat) (P : Nat → Prop) (G : Nat → Nat → Nat) (hS : Sq w H P b sl pv V G) (s : Nat) (hs : s < 8) (q : Nat) (d : Nat × Nat × Nat) (hq : (outs (G s) 2500)[q]? = some d) (c : Int) (hc9 : -2147483648 ≤ c ∧ c ≤ 2147483647) (hc : ¬ (0 ≤ c ∧ c < (((crn (G s) d).length : Nat) : Int))) : pb_X w l yX1_cornerX cX1_cornerX 4 (some .int) 12 (3779 + lC 312 + 1) (25127 + lS 312 + 6) [.ref (b), .int (iZ (((s : Nat) : Int))), .int (iZ (((q : Nat) : Int))), .int (iZ (c))] H (RJ16) := by
  refine pb_ofX (by decide +kernel) (Nat.le_of_ble_eq_true rfl) ?_
  intro p_ e_ s_ m_ ar_ bl_ me_ co_ ls C hh hG hl hT
  have hG0 := hG
  have hF : pb_F (fun _ => True) H H := pb_F.rf
  have hl : lv_has ls 4 [(0, .ref (b)), (1, .int (iZ (((s : Nat) : Int)))), (2, .int (iZ (((q : Nat) : Int)))), (3, .int (iZ (c)))] := hl
  obtain ⟨hPb, hBo, hLr, hV8⟩ := id hS.1
  refine pb_aload_n C dX1_cornerX_0 rfl (lv_at hl 0 rfl) ?_
  refine pb_iload_n C dX1_cornerX_1 rfl (lv_at hl 1 rfl) ?_
  refine pb_iload_n C dX1_cornerX_2 rfl (lv_at hl 2 rfl) ?_
  refine pb_iload_n C dX1_cornerX_3 rfl (lv_at hl 3 rfl) ?_
  exact pb_outX C hF hT (pb_runVX (rest := []) C hG (mex_X1_outlineWith_3 l hlx b sl pv V P G hS s hs q d hq c hc9 hc) hBo (ci := 0) rfl (lw_V q1610 q1612 qs25 q51 q1613) ⟨rfl, hdX1_outlineWith⟩ rfl hl.1 rfl (Nat.le_of_ble_eq_true rfl) ⟨(Nat.le_of_ble_eq_true rfl), (Nat.le_of_ble_eq_true rfl)⟩ dX1_cornerX_4) (by omega) (by omega)

set_option maxHeartbeats 1000000 in
theorem mex_X1_cornerY_2 {w : pb_W} (l : Launch) {H : Heap} (hlx : l.stackTraces = false) (b sl : Nat) (pv : Value) (V : List Nat) (P : Nat → Prop) (G : Nat → Nat → Nat) (hS : Sq w H P b sl pv V G) (s : Nat) (hs : s < 8) (q : Int) (hq9 : -2147483648 ≤ q ∧ q ≤ 2147483647) (hq : ¬ (0 ≤ q ∧ q < (((outs (G s) 2500).length : Nat) : Int))) (c : Int) : pb_X w l yX1_cornerY cX1_cornerY 4 (some .int) 12 (3779 + lC 312 + 1) (25127 + lS 312 + 6) [.ref (b), .int (iZ (((s : Nat) : Int))), .int (iZ (q)), .int (iZ (c))] H (RJ16) := by
  refine pb_ofX (by decide +kernel) (Nat.le_of_ble_eq_true rfl) ?_
  intro p_ e_ s_ m_ ar_ bl_ me_ co_ ls C hh hG hl hT
  have hG0 := hG
  have hF : pb_F (fun _ => True) H H := pb_F.rf
  have hl : lv_has ls 4 [(0, .ref (b)), (1, .int (iZ (((s : Nat) : Int)))), (2, .int (iZ (q))), (3, .int (iZ (c)))] := hl
  obtain ⟨hPb, hBo, hLr, hV8⟩ := id hS.1
  refine pb_aload_n C dX1_cornerY_0 rfl (lv_at hl 0 rfl) ?_
  refine pb_iload_n C dX1_cornerY_1 rfl (lv_at hl 1 rfl) ?_
  refine pb_iload_n C dX1_cornerY_2 rfl (lv_at hl 2 rfl) ?_
  refine pb_iload_n C dX1_cornerY_3 rfl (lv_at hl 3 rfl) ?_
  exact pb_outX C hF hT (pb_runVX (rest := []) C hG (mex_X1_outlineWith_2 l hlx b sl pv V P G hS s hs q hq9 hq c) hBo (ci := 0) rfl (lw_V q1610 q1612 qs25 q51 q1613) ⟨rfl, hdX1_outlineWith⟩ rfl hl.1 rfl (Nat.le_of_ble_eq_true rfl) ⟨(Nat.le_of_ble_eq_true rfl), (Nat.le_of_ble_eq_true rfl)⟩ dX1_cornerY_4) (by omega) (by omega)

set_option maxHeartbeats 1000000 in
theorem mex_X1_cornerY_3 {w : pb_W} (l : Launch) {H : Heap} (hlx : l.stackTraces = false) (b sl : Nat) (pv : Value) (V : List Nat) (P : Nat → Prop) (G : Nat → Nat → Nat) (hS : Sq w H P b sl pv V G) (s : Nat) (hs : s < 8) (q : Nat) (d : Nat × Nat × Nat) (hq : (outs (G s) 2500)[q]? = some d) (c : Int) (hc9 : -2147483648 ≤ c ∧ c ≤ 2147483647) (hc : ¬ (0 ≤ c ∧ c < (((crn (G s) d).length : Nat) : Int))) : pb_X w l yX1_cornerY cX1_cornerY 4 (some .int) 12 (3779 + lC 312 + 1) (25127 + lS 312 + 6) [.ref (b), .int (iZ (((s : Nat) : Int))), .int (iZ (((q : Nat) : Int))), .int (iZ (c))] H (RJ16) := by
  refine pb_ofX (by decide +kernel) (Nat.le_of_ble_eq_true rfl) ?_
  intro p_ e_ s_ m_ ar_ bl_ me_ co_ ls C hh hG hl hT
  have hG0 := hG
  have hF : pb_F (fun _ => True) H H := pb_F.rf
  have hl : lv_has ls 4 [(0, .ref (b)), (1, .int (iZ (((s : Nat) : Int)))), (2, .int (iZ (((q : Nat) : Int)))), (3, .int (iZ (c)))] := hl
  obtain ⟨hPb, hBo, hLr, hV8⟩ := id hS.1
  refine pb_aload_n C dX1_cornerY_0 rfl (lv_at hl 0 rfl) ?_
  refine pb_iload_n C dX1_cornerY_1 rfl (lv_at hl 1 rfl) ?_
  refine pb_iload_n C dX1_cornerY_2 rfl (lv_at hl 2 rfl) ?_
  refine pb_iload_n C dX1_cornerY_3 rfl (lv_at hl 3 rfl) ?_
  exact pb_outX C hF hT (pb_runVX (rest := []) C hG (mex_X1_outlineWith_3 l hlx b sl pv V P G hS s hs q d hq c hc9 hc) hBo (ci := 0) rfl (lw_V q1610 q1612 qs25 q51 q1613) ⟨rfl, hdX1_outlineWith⟩ rfl hl.1 rfl (Nat.le_of_ble_eq_true rfl) ⟨(Nat.le_of_ble_eq_true rfl), (Nat.le_of_ble_eq_true rfl)⟩ dX1_cornerY_4) (by omega) (by omega)

set_option maxHeartbeats 1000000 in
theorem mex_X1_checkedCells_2 {w : pb_W} (l : Launch) {H : Heap} (hlx : l.stackTraces = false) (b sl : Nat) (pv : Value) (V : List Nat) (P : Nat → Prop) (G : Nat → Nat → Nat) (hS : Sq w H P b sl pv V G) (s : Nat) (hs : s < 8) (a c d e : Int) (ha : -2147483648 ≤ a ∧ a ≤ 2147483647) (hc : -2147483648 ≤ c ∧ c ≤ 2147483647) (hd : -2147483648 ≤ d ∧ d ≤ 2147483647) (he : -2147483648 ≤ e ∧ e ≤ 2147483647) (hn : ¬ (((0 ≤ a ∧ a ≤ 23) ∧ 0 ≤ c ∧ c ≤ 23) ∧ (0 ≤ d ∧ d ≤ 23) ∧ 0 ≤ e ∧ e ≤ 23)) : pb_X w l yX1_checkedCells cX1_checkedCells 7 (some (.object "PolygonBoard$Cells")) 7 (1) (6) [.ref (b), .int (iZ (((s : Nat) : Int))), .int (iZ (a)), .int (iZ (c)), .int (iZ (d)), .int (iZ (e))] H (RJ14) := by
  refine pb_ofX (by decide +kernel) (Nat.le_of_ble_eq_true rfl) ?_
  intro p_ e_ s_ m_ ar_ bl_ me_ co_ ls C hh hG hl hT
  have hG0 := hG
  have hF : pb_F (fun _ => True) H H := pb_F.rf
  have hl : lv_has ls 7 [(0, .ref (b)), (1, .int (iZ (((s : Nat) : Int)))), (2, .int (iZ (a))), (3, .int (iZ (c))), (4, .int (iZ (d))), (5, .int (iZ (e)))] := hl
  obtain ⟨hPb, hBo, hLr, hV8⟩ := id hS.1
  obtain ⟨fsr_, hRo⟩ : ∃ fs, pb_R w H (nV V s) 1 fs := by
    obtain ⟨-, L9, hR9, -⟩ := hS.2 s hs
    exact hR9.o
  refine pb_aload_n C dX1_checkedCells_0 rfl (lv_at hl 0 rfl) ?_
  refine pb_iload_n C dX1_checkedCells_1 rfl (lv_at hl 1 rfl) ?_
  refine pb_go_x (bc' := 1) (bs' := 6) (pb_runV (rest := []) C hG (met_X1_region l b sl pv V _ G hS s hs) hBo (ci := 0) rfl (lw_V q325 q327 qs4 q51 q328) ⟨rfl, hdX1_region⟩ rfl hl.1 rfl (Nat.le_of_ble_eq_true rfl) ⟨(Nat.le_of_ble_eq_true rfl), (Nat.le_of_ble_eq_true rfl)⟩ dX1_checkedCells_2) (by omega) (by omega) ?_
  refine pb_astore C dX1_checkedCells_5 hl (by decide) rfl fun ls hl => ?_
  have hl : lv_has ls 7 [(6, .ref ((nV V s))), (0, .ref (b)), (1, .int (iZ (((s : Nat) : Int)))), (2, .int (iZ (a))), (3, .int (iZ (c))), (4, .int (iZ (d))), (5, .int (iZ (e)))] := hl
  refine pb_iload_n C dX1_checkedCells_7 rfl (lv_at hl 3 rfl) ?_
  refine pb_iload_n C dX1_checkedCells_8 rfl (lv_at hl 4 rfl) ?_
  refine pb_go_x (bc' := 1) (bs' := 6) (pb_runS (rest := []) C hG (met_X1_isCell l a c ha hc) (lw_S q1050 q1038 q51 q1039) hdX1_isCell rfl hl.1 rfl (Nat.le_of_ble_eq_true rfl) ⟨(Nat.le_of_ble_eq_true rfl), (Nat.le_of_ble_eq_true rfl)⟩ dX1_checkedCells_9) (by omega) (by omega) ?_
  refine pb_ifB_eq C dX1_checkedCells_12 (tgt := 29) (by decide) (fun c12_ => ?_) (fun c12_ => ?_)
  · refine pb_ic C dX1_checkedCells_29 ?_
    exact pb_outX C hF hT (pb_runSX (rest := []) C hG (mex_X1_checkArgument l hlx) (lw_S q381 q382 q51 q383) hdX1_checkArgument rfl hl.1 rfl (Nat.le_of_ble_eq_true rfl) ⟨(Nat.le_of_ble_eq_true rfl), (Nat.le_of_ble_eq_true rfl)⟩ dX1_checkedCells_30) (by omega) (by omega)
  · refine pb_iload C dX1_checkedCells_15 (lv_at hl 5 rfl) ?_
    refine pb_iload C dX1_checkedCells_17 (lv_at hl 6 rfl) ?_
    refine pb_go_x (bc' := 1) (bs' := 6) (pb_runS (rest := []) C hG (met_X1_isCell l d e hd he) (lw_S q1050 q1038 q51 q1039) hdX1_isCell rfl hl.1 rfl (Nat.le_of_ble_eq_true rfl) ⟨(Nat.le_of_ble_eq_true rfl), (Nat.le_of_ble_eq_true rfl)⟩ dX1_checkedCells_19) (by omega) (by omega) ?_
    refine pb_ifB_eq C dX1_checkedCells_22 (tgt := 29) (by decide) (fun c22_ => ?_) (fun c22_ => ?_)
    · refine pb_ic C dX1_checkedCells_29 ?_
      exact pb_outX C hF hT (pb_runSX (rest := []) C hG (mex_X1_checkArgument l hlx) (lw_S q381 q382 q51 q383) hdX1_checkArgument rfl hl.1 rfl (Nat.le_of_ble_eq_true rfl) ⟨(Nat.le_of_ble_eq_true rfl), (Nat.le_of_ble_eq_true rfl)⟩ dX1_checkedCells_30) (by omega) (by omega)
    · exact absurd ⟨and_t c12_, and_t c22_⟩ hn

set_option maxHeartbeats 1000000 in
theorem mex_X1_checkedCells_3 {w : pb_W} (l : Launch) {H0 : Heap} (hlx : l.stackTraces = false) (b sl : Nat) (pv : Value) (V : List Nat) (P : Nat → Prop) (G : Nat → Nat → Nat) (hS0 : Sq w H0 P b sl pv V G) (s : Nat) (hs : s < 8) (a c d e : Int) (hb : ((0 ≤ a ∧ a ≤ 23) ∧ 0 ≤ c ∧ c ≤ 23) ∧ (0 ≤ d ∧ d ≤ 23) ∧ 0 ≤ e ∧ e ≤ 23) (hn : ¬ (gc (G s) a c = true ∧ gc (G s) d e = true)) : pb_X w l yX1_checkedCells cX1_checkedCells 7 (some (.object "PolygonBoard$Cells")) 7 (3) (14) [.ref (b), .int (iZ (((s : Nat) : Int))), .int (iZ (a)), .int (iZ (c)), .int (iZ (d)), .int (iZ (e))] H0 (RJ16) := by
  refine pb_ofX (by decide +kernel) (Nat.le_of_ble_eq_true rfl) ?_
  intro p_ e_ s_ m_ ar_ bl_ me_ co_ ls C hh hG hl hT
  have hG0 := hG
  have hF : pb_F (fun _ => True) H0 H0 := pb_F.rf
  have hl : lv_has ls 7 [(0, .ref (b)), (1, .int (iZ (((s : Nat) : Int)))), (2, .int (iZ (a))), (3, .int (iZ (c))), (4, .int (iZ (d))), (5, .int (iZ (e)))] := hl
  have hzs := hG.1
  have hS := hS0.below
  have hFF : pb_F (fun q => q < H0.size) H0 H0 := pb_F.rf
  obtain ⟨hPb, hBo, hLr, hV8⟩ := id hS.1
  obtain ⟨hg, L, hR, hr⟩ := hS.2 s hs
  obtain ⟨fsr_, hRo⟩ := hR.o
  obtain ⟨hp1, hp2, hp3, hp4⟩ := rq_pre hg hr
  have hR0 := hR
  refine pb_aload_n C dX1_checkedCells_0 rfl (lv_at hl 0 rfl) ?_
  refine pb_iload_n C dX1_checkedCells_1 rfl (lv_at hl 1 rfl) ?_
  refine pb_go_x (bc' := 3) (bs' := 14) (pb_runV (rest := []) C hG (met_X1_region l b sl pv V _ G hS s hs) hBo (ci := 0) rfl (lw_V q325 q327 qs4 q51 q328) ⟨rfl, hdX1_region⟩ rfl hl.1 rfl (Nat.le_of_ble_eq_true rfl) ⟨(Nat.le_of_ble_eq_true rfl), (Nat.le_of_ble_eq_true rfl)⟩ dX1_checkedCells_2) (by omega) (by omega) ?_
  refine pb_astore C dX1_checkedCells_5 hl (by decide) rfl fun ls hl => ?_
  have hl : lv_has ls 7 [(6, .ref ((nV V s))), (0, .ref (b)), (1, .int (iZ (((s : Nat) : Int)))), (2, .int (iZ (a))), (3, .int (iZ (c))), (4, .int (iZ (d))), (5, .int (iZ (e)))] := hl
  refine pb_iload_n C dX1_checkedCells_7 rfl (lv_at hl 3 rfl) ?_
  refine pb_iload_n C dX1_checkedCells_8 rfl (lv_at hl 4 rfl) ?_
  refine pb_go_x (bc' := 3) (bs' := 14) (pb_runS (rest := []) C hG (met_X1_isCell l a c (by omega) (by omega)) (lw_S q1050 q1038 q51 q1039) hdX1_isCell rfl hl.1 rfl (Nat.le_of_ble_eq_true rfl) ⟨(Nat.le_of_ble_eq_true rfl), (Nat.le_of_ble_eq_true rfl)⟩ dX1_checkedCells_9) (by omega) (by omega) ?_
  refine pb_eq (g2 := F0 m_ 12 ls [.int (iZ (1))]) (congrArg (fun z9 => F0 m_ 12 ls [.int (iZ z9)]) (show (bI ((decide (0 ≤ a ∧ a ≤ 23) && decide (0 ≤ c ∧ c ≤ 23)))) = 1 from (bI_t (by rw [decide_eq_true (show 0 ≤ a ∧ a ≤ 23 from by omega), decide_eq_true (show 0 ≤ c ∧ c ≤ 23 from by omega)]; rfl)))) ?_
  refine pb_if_eq C dX1_checkedCells_12 (x := 1) (tgt := 29) (by decide) (by omega) (fun c12_ => ?_) (fun c12_ => ?_)
  · exact absurd c12_ (by decide)
  · refine pb_iload C dX1_checkedCells_15 (lv_at hl 5 rfl) ?_
    refine pb_iload C dX1_checkedCells_17 (lv_at hl 6 rfl) ?_
    refine pb_go_x (bc' := 3) (bs' := 14) (pb_runS (rest := []) C hG (met_X1_isCell l d e (by omega) (by omega)) (lw_S q1050 q1038 q51 q1039) hdX1_isCell rfl hl.1 rfl (Nat.le_of_ble_eq_true rfl) ⟨(Nat.le_of_ble_eq_true rfl), (Nat.le_of_ble_eq_true rfl)⟩ dX1_checkedCells_19) (by omega) (by omega) ?_
    refine pb_eq (g2 := F0 m_ 22 ls [.int (iZ (1))]) (congrArg (fun z9 => F0 m_ 22 ls [.int (iZ z9)]) (show (bI ((decide (0 ≤ d ∧ d ≤ 23) && decide (0 ≤ e ∧ e ≤ 23)))) = 1 from (bI_t (by rw [decide_eq_true (show 0 ≤ d ∧ d ≤ 23 from by omega), decide_eq_true (show 0 ≤ e ∧ e ≤ 23 from by omega)]; rfl)))) ?_
    refine pb_if_eq C dX1_checkedCells_22 (x := 1) (tgt := 29) (by decide) (by omega) (fun c22_ => ?_) (fun c22_ => ?_)
    · exact absurd c22_ (by decide)
    · refine pb_ic C dX1_checkedCells_25 ?_
      refine pb_goto C dX1_checkedCells_26 (tgt := 30) (by decide) ?_
      refine pb_go_n (bc' := 3) (bs' := 14) (pb_runS (rest := []) C hG (met_X1_checkArgument l) (lw_S q381 q382 q51 q383) hdX1_checkArgument rfl hl.1 rfl (Nat.le_of_ble_eq_true rfl) ⟨(Nat.le_of_ble_eq_true rfl), (Nat.le_of_ble_eq_true rfl)⟩ dX1_checkedCells_30) (by omega) (by omega) ?_
      refine pb_aload C dX1_checkedCells_33 (lv_at hl 0 rfl) ?_
      refine pb_iload_n C dX1_checkedCells_35 rfl (lv_at hl 3 rfl) ?_
      refine pb_iload_n C dX1_checkedCells_36 rfl (lv_at hl 4 rfl) ?_
      refine pb_go_i (bc' := 2) (bs' := 10) (pb_runV (rest := []) C hG (met_X2_contains l (nV V s) _ L hR a c (by omega) (by omega)) hRo (ci := 1) rfl (lw_V q1108 q1109 q1110 q55 q1111) ⟨rfl, hdX2_contains⟩ rfl hl.1 rfl (Nat.le_of_ble_eq_true rfl) ⟨(Nat.le_of_ble_eq_true rfl), (Nat.le_of_ble_eq_true rfl)⟩ dX1_checkedCells_37) (by omega) (by omega) (fun z_ H1 hp_ => ?_)
      obtain ⟨rfl, hF1⟩ := hp_
      have hsa := hF1.1
      have hG := hG.kept (hF1.mono (fun q _ (hq : q < w.2.2.2) => show q < _ from by omega))
      have hFF := hFF.tr (hF1.mono (fun q _ (hq : q < H0.size) => show q < _ from by omega))
      have hR := hR0.kept hFF
      obtain ⟨fsr_, hRo⟩ := hR.o
      refine pb_ifB_eq C dX1_checkedCells_40 (tgt := 59) (by decide) (fun c40_ => ?_) (fun c40_ => ?_)
      · refine pb_ic C dX1_checkedCells_59 ?_
        exact pb_outX C hFF.all hT (pb_runSX (rest := []) C hG (mex_X1_checkElement l hlx) (lw_S q1082 q1083 q51 q1084) hdX1_checkElement rfl hl.1 rfl (Nat.le_of_ble_eq_true rfl) ⟨(Nat.le_of_ble_eq_true rfl), (Nat.le_of_ble_eq_true rfl)⟩ dX1_checkedCells_60) (by omega) (by omega)
      · refine pb_aload C dX1_checkedCells_43 (lv_at hl 0 rfl) ?_
        refine pb_iload C dX1_checkedCells_45 (lv_at hl 5 rfl) ?_
        refine pb_iload C dX1_checkedCells_47 (lv_at hl 6 rfl) ?_
        refine pb_go_i (bc' := 1) (bs' := 6) (pb_runV (rest := []) C hG (met_X2_contains l (nV V s) _ L hR d e (by omega) (by omega)) hRo (ci := 1) rfl (lw_V q1108 q1109 q1110 q55 q1111) ⟨rfl, hdX2_contains⟩ rfl hl.1 rfl (Nat.le_of_ble_eq_true rfl) ⟨(Nat.le_of_ble_eq_true rfl), (Nat.le_of_ble_eq_true rfl)⟩ dX1_checkedCells_49) (by omega) (by omega) (fun z_ H2 hp_ => ?_)
        obtain ⟨rfl, hF1⟩ := hp_
        have hsd := hF1.1
        have hG := hG.kept (hF1.mono (fun q _ (hq : q < w.2.2.2) => show q < _ from by omega))
        have hFF := hFF.tr (hF1.mono (fun q _ (hq : q < H0.size) => show q < _ from by omega))
        have hR := hR0.kept hFF
        obtain ⟨fsr_, hRo⟩ := hR.o
        refine pb_ifB_eq C dX1_checkedCells_52 (tgt := 59) (by decide) (fun c52_ => ?_) (fun c52_ => ?_)
        · refine pb_ic C dX1_checkedCells_59 ?_
          exact pb_outX C hFF.all hT (pb_runSX (rest := []) C hG (mex_X1_checkElement l hlx) (lw_S q1082 q1083 q51 q1084) hdX1_checkElement rfl hl.1 rfl (Nat.le_of_ble_eq_true rfl) ⟨(Nat.le_of_ble_eq_true rfl), (Nat.le_of_ble_eq_true rfl)⟩ dX1_checkedCells_60) (by omega) (by omega)
        · exact absurd ⟨(hr.2 _ _).symm.trans c40_, (hr.2 _ _).symm.trans c52_⟩ hn

set_option maxHeartbeats 1000000 in
theorem mex_X1_steps_2 {w : pb_W} (l : Launch) {H : Heap} (hlx : l.stackTraces = false) (b sl : Nat) (pv : Value) (V : List Nat) (P : Nat → Prop) (G : Nat → Nat → Nat) (hS : Sq w H P b sl pv V G) (s : Nat) (hs : s < 8) (a c d e : Int) (ha : -2147483648 ≤ a ∧ a ≤ 2147483647) (hc : -2147483648 ≤ c ∧ c ≤ 2147483647) (hd : -2147483648 ≤ d ∧ d ≤ 2147483647) (he : -2147483648 ≤ e ∧ e ≤ 2147483647) (hn : ¬ (((0 ≤ a ∧ a ≤ 23) ∧ 0 ≤ c ∧ c ≤ 23) ∧ (0 ≤ d ∧ d ≤ 23) ∧ 0 ≤ e ∧ e ≤ 23)) : pb_X w l yX1_steps cX1_steps 7 (some .int) 8 (1) (6) [.ref (b), .int (iZ (((s : Nat) : Int))), .int (iZ (a)), .int (iZ (c)), .int (iZ (d)), .int (iZ (e))] H (RJ14) := by
  refine pb_ofX (by decide +kernel) (Nat.le_of_ble_eq_true rfl) ?_
  intro p_ e_ s_ m_ ar_ bl_ me_ co_ ls C hh hG hl hT
  have hG0 := hG
  have hF : pb_F (fun _ => True) H H := pb_F.rf
  have hl : lv_has ls 7 [(0, .ref (b)), (1, .int (iZ (((s : Nat) : Int)))), (2, .int (iZ (a))), (3, .int (iZ (c))), (4, .int (iZ (d))), (5, .int (iZ (e)))] := hl
  obtain ⟨hPb, hBo, hLr, hV8⟩ := id hS.1
  refine pb_aload_n C dX1_steps_0 rfl (lv_at hl 0 rfl) ?_
  refine pb_iload_n C dX1_steps_1 rfl (lv_at hl 1 rfl) ?_
  refine pb_iload_n C dX1_steps_2 rfl (lv_at hl 2 rfl) ?_
  refine pb_iload_n C dX1_steps_3 rfl (lv_at hl 3 rfl) ?_
  refine pb_iload C dX1_steps_4 (lv_at hl 4 rfl) ?_
  refine pb_iload C dX1_steps_6 (lv_at hl 5 rfl) ?_
  exact pb_outX C hF hT (pb_runVX (rest := []) C hG (mex_X1_checkedCells_2 l hlx b sl pv V P G hS s hs a c d e ha hc hd he hn) hBo (ci := 0) rfl (lw_V q1548 q1550 qs23 q51 q1551) ⟨rfl, hdX1_checkedCells⟩ rfl hl.1 rfl (Nat.le_of_ble_eq_true rfl) ⟨(Nat.le_of_ble_eq_true rfl), (Nat.le_of_ble_eq_true rfl)⟩ dX1_steps_8) (by omega) (by omega)

set_option maxHeartbeats 1000000 in
theorem mex_X1_steps_3 {w : pb_W} (l : Launch) {H : Heap} (hlx : l.stackTraces = false) (b sl : Nat) (pv : Value) (V : List Nat) (P : Nat → Prop) (G : Nat → Nat → Nat) (hS : Sq w H P b sl pv V G) (s : Nat) (hs : s < 8) (a c d e : Int) (hb : ((0 ≤ a ∧ a ≤ 23) ∧ 0 ≤ c ∧ c ≤ 23) ∧ (0 ≤ d ∧ d ≤ 23) ∧ 0 ≤ e ∧ e ≤ 23) (hn : ¬ (gc (G s) a c = true ∧ gc (G s) d e = true)) : pb_X w l yX1_steps cX1_steps 7 (some .int) 8 (3) (14) [.ref (b), .int (iZ (((s : Nat) : Int))), .int (iZ (a)), .int (iZ (c)), .int (iZ (d)), .int (iZ (e))] H (RJ16) := by
  refine pb_ofX (by decide +kernel) (Nat.le_of_ble_eq_true rfl) ?_
  intro p_ e_ s_ m_ ar_ bl_ me_ co_ ls C hh hG hl hT
  have hG0 := hG
  have hF : pb_F (fun _ => True) H H := pb_F.rf
  have hl : lv_has ls 7 [(0, .ref (b)), (1, .int (iZ (((s : Nat) : Int)))), (2, .int (iZ (a))), (3, .int (iZ (c))), (4, .int (iZ (d))), (5, .int (iZ (e)))] := hl
  obtain ⟨hPb, hBo, hLr, hV8⟩ := id hS.1
  refine pb_aload_n C dX1_steps_0 rfl (lv_at hl 0 rfl) ?_
  refine pb_iload_n C dX1_steps_1 rfl (lv_at hl 1 rfl) ?_
  refine pb_iload_n C dX1_steps_2 rfl (lv_at hl 2 rfl) ?_
  refine pb_iload_n C dX1_steps_3 rfl (lv_at hl 3 rfl) ?_
  refine pb_iload C dX1_steps_4 (lv_at hl 4 rfl) ?_
  refine pb_iload C dX1_steps_6 (lv_at hl 5 rfl) ?_
  exact pb_outX C hF hT (pb_runVX (rest := []) C hG (mex_X1_checkedCells_3 l hlx b sl pv V P G hS s hs a c d e hb hn) hBo (ci := 0) rfl (lw_V q1548 q1550 qs23 q51 q1551) ⟨rfl, hdX1_checkedCells⟩ rfl hl.1 rfl (Nat.le_of_ble_eq_true rfl) ⟨(Nat.le_of_ble_eq_true rfl), (Nat.le_of_ble_eq_true rfl)⟩ dX1_steps_8) (by omega) (by omega)

set_option maxHeartbeats 1000000 in
theorem mex_X1_stepsByRows_2 {w : pb_W} (l : Launch) {H : Heap} (hlx : l.stackTraces = false) (b sl : Nat) (pv : Value) (V : List Nat) (P : Nat → Prop) (G : Nat → Nat → Nat) (hS : Sq w H P b sl pv V G) (s : Nat) (hs : s < 8) (a c d e : Int) (ha : -2147483648 ≤ a ∧ a ≤ 2147483647) (hc : -2147483648 ≤ c ∧ c ≤ 2147483647) (hd : -2147483648 ≤ d ∧ d ≤ 2147483647) (he : -2147483648 ≤ e ∧ e ≤ 2147483647) (hn : ¬ (((0 ≤ a ∧ a ≤ 23) ∧ 0 ≤ c ∧ c ≤ 23) ∧ (0 ≤ d ∧ d ≤ 23) ∧ 0 ≤ e ∧ e ≤ 23)) : pb_X w l yX1_stepsByRows cX1_stepsByRows 10 (some .int) 8 (1) (6) [.ref (b), .int (iZ (((s : Nat) : Int))), .int (iZ (a)), .int (iZ (c)), .int (iZ (d)), .int (iZ (e))] H (RJ14) := by
  refine pb_ofX (by decide +kernel) (Nat.le_of_ble_eq_true rfl) ?_
  intro p_ e_ s_ m_ ar_ bl_ me_ co_ ls C hh hG hl hT
  have hG0 := hG
  have hF : pb_F (fun _ => True) H H := pb_F.rf
  have hl : lv_has ls 10 [(0, .ref (b)), (1, .int (iZ (((s : Nat) : Int)))), (2, .int (iZ (a))), (3, .int (iZ (c))), (4, .int (iZ (d))), (5, .int (iZ (e)))] := hl
  obtain ⟨hPb, hBo, hLr, hV8⟩ := id hS.1
  refine pb_aload_n C dX1_stepsByRows_0 rfl (lv_at hl 0 rfl) ?_
  refine pb_iload_n C dX1_stepsByRows_1 rfl (lv_at hl 1 rfl) ?_
  refine pb_iload_n C dX1_stepsByRows_2 rfl (lv_at hl 2 rfl) ?_
  refine pb_iload_n C dX1_stepsByRows_3 rfl (lv_at hl 3 rfl) ?_
  refine pb_iload C dX1_stepsByRows_4 (lv_at hl 4 rfl) ?_
  refine pb_iload C dX1_stepsByRows_6 (lv_at hl 5 rfl) ?_
  exact pb_outX C hF hT (pb_runVX (rest := []) C hG (mex_X1_checkedCells_2 l hlx b sl pv V P G hS s hs a c d e ha hc hd he hn) hBo (ci := 0) rfl (lw_V q1548 q1550 qs23 q51 q1551) ⟨rfl, hdX1_checkedCells⟩ rfl hl.1 rfl (Nat.le_of_ble_eq_true rfl) ⟨(Nat.le_of_ble_eq_true rfl), (Nat.le_of_ble_eq_true rfl)⟩ dX1_stepsByRows_8) (by omega) (by omega)

set_option maxHeartbeats 1000000 in
theorem mex_X1_stepsByRows_3 {w : pb_W} (l : Launch) {H : Heap} (hlx : l.stackTraces = false) (b sl : Nat) (pv : Value) (V : List Nat) (P : Nat → Prop) (G : Nat → Nat → Nat) (hS : Sq w H P b sl pv V G) (s : Nat) (hs : s < 8) (a c d e : Int) (hb : ((0 ≤ a ∧ a ≤ 23) ∧ 0 ≤ c ∧ c ≤ 23) ∧ (0 ≤ d ∧ d ≤ 23) ∧ 0 ≤ e ∧ e ≤ 23) (hn : ¬ (gc (G s) a c = true ∧ gc (G s) d e = true)) : pb_X w l yX1_stepsByRows cX1_stepsByRows 10 (some .int) 8 (3) (14) [.ref (b), .int (iZ (((s : Nat) : Int))), .int (iZ (a)), .int (iZ (c)), .int (iZ (d)), .int (iZ (e))] H (RJ16) := by
  refine pb_ofX (by decide +kernel) (Nat.le_of_ble_eq_true rfl) ?_
  intro p_ e_ s_ m_ ar_ bl_ me_ co_ ls C hh hG hl hT
  have hG0 := hG
  have hF : pb_F (fun _ => True) H H := pb_F.rf
  have hl : lv_has ls 10 [(0, .ref (b)), (1, .int (iZ (((s : Nat) : Int)))), (2, .int (iZ (a))), (3, .int (iZ (c))), (4, .int (iZ (d))), (5, .int (iZ (e)))] := hl
  obtain ⟨hPb, hBo, hLr, hV8⟩ := id hS.1
  refine pb_aload_n C dX1_stepsByRows_0 rfl (lv_at hl 0 rfl) ?_
  refine pb_iload_n C dX1_stepsByRows_1 rfl (lv_at hl 1 rfl) ?_
  refine pb_iload_n C dX1_stepsByRows_2 rfl (lv_at hl 2 rfl) ?_
  refine pb_iload_n C dX1_stepsByRows_3 rfl (lv_at hl 3 rfl) ?_
  refine pb_iload C dX1_stepsByRows_4 (lv_at hl 4 rfl) ?_
  refine pb_iload C dX1_stepsByRows_6 (lv_at hl 5 rfl) ?_
  exact pb_outX C hF hT (pb_runVX (rest := []) C hG (mex_X1_checkedCells_3 l hlx b sl pv V P G hS s hs a c d e hb hn) hBo (ci := 0) rfl (lw_V q1548 q1550 qs23 q51 q1551) ⟨rfl, hdX1_checkedCells⟩ rfl hl.1 rfl (Nat.le_of_ble_eq_true rfl) ⟨(Nat.le_of_ble_eq_true rfl), (Nat.le_of_ble_eq_true rfl)⟩ dX1_stepsByRows_8) (by omega) (by omega)

set_option maxHeartbeats 1000000 in
theorem mex_X1_found {w : pb_W} (l : Launch) {H : Heap} (hlx : l.stackTraces = false)  : pb_X w l yX1_found cX1_found 1 (some .int) 7 (1) (6) [.int (iZ ((-1)))] H (RJ16) := by
  refine pb_ofX (by decide +kernel) (Nat.le_of_ble_eq_true rfl) ?_
  intro p_ e_ s_ m_ ar_ bl_ me_ co_ ls C hh hG hl hT
  have hG0 := hG
  have hF : pb_F (fun _ => True) H H := pb_F.rf
  have hl : lv_has ls 1 [(0, .int (iZ ((-1))))] := hl
  refine pb_iload_n C dX1_found_0 rfl (lv_at hl 0 rfl) ?_
  refine pb_ic C dX1_found_1 ?_
  refine pb_icmp_eq C dX1_found_2 (x := (-1)) (y := (-1)) (tgt := 9) (by decide) (by omega) (by omega) (fun c2_ => ?_) (fun c2_ => ?_)
  · refine pb_ic C dX1_found_9 ?_
    exact pb_outX C hF hT (pb_runSX (rest := []) C hG (mex_X1_checkElement l hlx) (lw_S q1082 q1083 q51 q1084) hdX1_checkElement rfl hl.1 rfl (Nat.le_of_ble_eq_true rfl) ⟨(Nat.le_of_ble_eq_true rfl), (Nat.le_of_ble_eq_true rfl)⟩ dX1_found_10) (by omega) (by omega)
  · exact absurd c2_ (by decide)

set_option maxHeartbeats 1000000 in
theorem mex_X1_steps_4 {w : pb_W} (l : Launch) {H0 : Heap} (hlx : l.stackTraces = false) (b sl : Nat) (pv : Value) (V : List Nat) (P : Nat → Prop) (G : Nat → Nat → Nat) (hS0 : Sq w H0 P b sl pv V G) (s : Nat) (hs : s < 8) (x0 y0 x1 y1 : Nat) (hx0 : x0 < 24) (hy0 : y0 < 24) (hx1 : x1 < 24) (hy1 : y1 < 24) (h0 : gc (G s) ((x0 : Nat) : Int) ((y0 : Nat) : Int) = true) (h1 : gc (G s) ((x1 : Nat) : Int) ((y1 : Nat) : Int) = true) (hway : ¬ ∃ m, lv (G s) (24 * y0 + x0) m (24 * y1 + x1)) : pb_X w l yX1_steps cX1_steps 7 (some .int) 8 (616) (3713) [.ref (b), .int (iZ (((s : Nat) : Int))), .int (iZ (((x0 : Nat) : Int))), .int (iZ (((y0 : Nat) : Int))), .int (iZ (((x1 : Nat) : Int))), .int (iZ (((y1 : Nat) : Int)))] H0 (RJ16) := by
  refine pb_ofX (by decide +kernel) (Nat.le_of_ble_eq_true rfl) ?_
  intro p_ e_ s_ m_ ar_ bl_ me_ co_ ls C hh hG hl hT
  have hG0 := hG
  have hF : pb_F (fun _ => True) H0 H0 := pb_F.rf
  have hl : lv_has ls 7 [(0, .ref (b)), (1, .int (iZ (((s : Nat) : Int)))), (2, .int (iZ (((x0 : Nat) : Int)))), (3, .int (iZ (((y0 : Nat) : Int)))), (4, .int (iZ (((x1 : Nat) : Int)))), (5, .int (iZ (((y1 : Nat) : Int))))] := hl
  have hzs := hG.1
  have hS := hS0.below
  have hFF : pb_F (fun q => q < H0.size) H0 H0 := pb_F.rf
  obtain ⟨hPb, hBo, hLr, hV8⟩ := id hS.1
  obtain ⟨hg, L, hR, hr⟩ := hS.2 s hs
  obtain ⟨fsr_, hRo⟩ := hR.o
  obtain ⟨hp1, hp2, hp3, hp4⟩ := rq_pre hg hr
  have hgG := hg
  refine pb_aload_n C dX1_steps_0 rfl (lv_at hl 0 rfl) ?_
  refine pb_iload_n C dX1_steps_1 rfl (lv_at hl 1 rfl) ?_
  refine pb_iload_n C dX1_steps_2 rfl (lv_at hl 2 rfl) ?_
  refine pb_iload_n C dX1_steps_3 rfl (lv_at hl 3 rfl) ?_
  refine pb_iload C dX1_steps_4 (lv_at hl 4 rfl) ?_
  refine pb_iload C dX1_steps_6 (lv_at hl 5 rfl) ?_
  refine pb_go_r (bc' := 588) (bs' := 3584) (pb_runV (rest := []) C hG (met_X1_checkedCells l b sl pv V _ G hS s hs x0 y0 x1 y1 hx0 hy0 hx1 hy1 h0 h1) hBo (ci := 0) rfl (lw_V q1548 q1550 qs23 q51 q1551) ⟨rfl, hdX1_checkedCells⟩ rfl hl.1 rfl (Nat.le_of_ble_eq_true rfl) ⟨(Nat.le_of_ble_eq_true rfl), (Nat.le_of_ble_eq_true rfl)⟩ dX1_steps_8) (by omega) (by omega) (fun c9 H1 hp_ => ?_)
  obtain ⟨z9, r9, hz9, hC9, hF1⟩ := hp_
  have hs1 := hF1.1
  have hG := hG.kept (hF1.mono (fun q _ (hq : q < w.2.2.2) => show q < _ from by omega))
  have hFF := hFF.tr hF1
  refine pb_astore C dX1_steps_11 hl (by decide) rfl fun ls hl => ?_
  have hl : lv_has ls 7 [(6, .ref (c9)), (0, .ref (b)), (1, .int (iZ (((s : Nat) : Int)))), (2, .int (iZ (((x0 : Nat) : Int)))), (3, .int (iZ (((y0 : Nat) : Int)))), (4, .int (iZ (((x1 : Nat) : Int)))), (5, .int (iZ (((y1 : Nat) : Int))))] := hl
  refine pb_aload C dX1_steps_13 (lv_at hl 0 rfl) ?_
  refine pb_bip C dX1_steps_15 (by decide) ?_
  refine pb_iload_n C dX1_steps_17 rfl (lv_at hl 4 rfl) ?_
  refine pb_imul C dX1_steps_18 ?_
  refine pb_iload_n C dX1_steps_19 rfl (lv_at hl 3 rfl) ?_
  refine pb_iadd C dX1_steps_20 ?_
  refine pb_go_r (bc' := 1) (bs' := 6) (pb_runS (rest := []) C hG (met_X1_stepsFrom l c9 ((24 * y0) + x0) _ (G s) hC9.q (by omega)) (lw_S q1552 q1553 q51 q1554) hdX1_stepsFrom rfl hl.1 rfl (Nat.le_of_ble_eq_true rfl) ⟨(Nat.le_of_ble_eq_true rfl), (Nat.le_of_ble_eq_true rfl)⟩ dX1_steps_21) (by omega) (by omega) (fun s9 H2 hp_ => ?_)
  obtain ⟨A, F, n, hA, hAe, hq, hFn, hFb, hF2⟩ := hp_
  have hs2 := hF2.1
  have hG := hG.kept (hF2.mono (fun q _ (hq : q < w.2.2.2) => show q < _ from by omega))
  have hFF := hFF.tr (hF2.mono (fun q _ (hq : q < H0.size) => show q < _ from by omega))
  have hbl := bq_law hgG (show 24 * y0 + x0 < 576 from by omega) (show 24 * y1 + x1 < 576 from by omega) hq
  rw [hFn] at hbl
  have hv : F (24 * y1 + x1) = -1 := by
    rcases hbl with h | h
    · obtain ⟨v, hv, hd9⟩ := h
      exact absurd ⟨v, hd9.1⟩ hway
    · exact h.1
  refine pb_bip C dX1_steps_24 (by decide) ?_
  refine pb_iload C dX1_steps_26 (lv_at hl 6 rfl) ?_
  refine pb_imul C dX1_steps_28 ?_
  refine pb_iload C dX1_steps_29 (lv_at hl 5 rfl) ?_
  refine pb_iadd C dX1_steps_31 ?_
  refine pb_iald C hA.b (i := ((((24 * y1) + x1) : Nat) : Int)) (v := .int (iZ ((A (((24 * y1) + x1)))))) (by omega) rfl dX1_steps_32 ?_
  refine pb_eq (g2 := F0 m_ 33 ls [.int (iZ ((-1)))]) (congrArg (fun z9 => F0 m_ 33 ls [.int (iZ z9)]) (show (A (((24 * y1) + x1))) = (-1) from ((hAe _ (by omega)).trans hv))) ?_
  exact pb_outX C hFF.all hT (pb_runSX (rest := []) C hG (mex_X1_found l hlx) (lw_S q1573 q1574 q51 q1575) hdX1_found rfl hl.1 rfl (Nat.le_of_ble_eq_true rfl) ⟨(Nat.le_of_ble_eq_true rfl), (Nat.le_of_ble_eq_true rfl)⟩ dX1_steps_33) (by omega) (by omega)

set_option maxHeartbeats 1000000 in
theorem mex_X1_stepsByRows_4 {w : pb_W} (l : Launch) {H0 : Heap} (hlx : l.stackTraces = false) (b sl : Nat) (pv : Value) (V : List Nat) (P : Nat → Prop) (G : Nat → Nat → Nat) (hS0 : Sq w H0 P b sl pv V G) (s : Nat) (hs : s < 8) (x0 y0 x1 y1 : Nat) (hx0 : x0 < 24) (hy0 : y0 < 24) (hx1 : x1 < 24) (hy1 : y1 < 24) (h0 : gc (G s) ((x0 : Nat) : Int) ((y0 : Nat) : Int) = true) (h1 : gc (G s) ((x1 : Nat) : Int) ((y1 : Nat) : Int) = true) (hway : ¬ ∃ m, lv (G s) (24 * y0 + x0) m (24 * y1 + x1)) : pb_X w l yX1_stepsByRows cX1_stepsByRows 10 (some .int) 8 (608) (14008) [.ref (b), .int (iZ (((s : Nat) : Int))), .int (iZ (((x0 : Nat) : Int))), .int (iZ (((y0 : Nat) : Int))), .int (iZ (((x1 : Nat) : Int))), .int (iZ (((y1 : Nat) : Int)))] H0 (RJ16) := by
  refine pb_ofX (by decide +kernel) (Nat.le_of_ble_eq_true rfl) ?_
  intro p_ e_ s_ m_ ar_ bl_ me_ co_ ls C hh hG hl hT
  have hG0 := hG
  have hF : pb_F (fun _ => True) H0 H0 := pb_F.rf
  have hl : lv_has ls 10 [(0, .ref (b)), (1, .int (iZ (((s : Nat) : Int)))), (2, .int (iZ (((x0 : Nat) : Int)))), (3, .int (iZ (((y0 : Nat) : Int)))), (4, .int (iZ (((x1 : Nat) : Int)))), (5, .int (iZ (((y1 : Nat) : Int))))] := hl
  have hzs := hG.1
  have hS := hS0.below
  have hFF : pb_F (fun q => q < H0.size) H0 H0 := pb_F.rf
  obtain ⟨hPb, hBo, hLr, hV8⟩ := id hS.1
  obtain ⟨hg, L, hR, hr⟩ := hS.2 s hs
  obtain ⟨fsr_, hRo⟩ := hR.o
  obtain ⟨hp1, hp2, hp3, hp4⟩ := rq_pre hg hr
  have hgG := hg
  have hpos : 0 ≤ popG (sdG x0 y0) := Nat.zero_le _
  have L26 : ∀ (n_ : Nat) (n c9 c7 z7 : Nat) (hgr : Bool) (H : Heap), 577 - n = n_ → (pb_G w s_ H) → (n ≤ 577) → (H0.size ≤ z7) → (Cq w H (fun q => q < z7) c9 (G s)) → (Cb w H z7 c7 (z7 + 1) (tpI (G s) false (sdG x0 y0) n)) → (∀ m, m < n → (m + 1 < n ∨ hgr = true) → spB (tpI (G s) false (sdG x0 y0) m) (G s) false 24 = true) → (hgr = false → 0 < n ∧ spB (tpI (G s) false (sdG x0 y0) (n - 1)) (G s) false 24 = false) → (∀ m, m < n → ¬ ((tpI (G s) false (sdG x0 y0) m) y1).testBit x1 = true) → (pb_F (fun q => q < H0.size) H0 H) → ∀ (ls : Array Slot), lv_has ls 10 [(4, .int (iZ (((x1 : Nat) : Int)))), (5, .int (iZ (((y1 : Nat) : Int)))), (6, .ref (c9)), (7, .ref (c7)), (8, .int (iZ (((n : Nat) : Int)))), (9, .int (iZ ((bI (hgr)))))] → pb_V w.2.2.2 p_ l e_ (pb_rm 8 (608) (14008)) s_ m_ ar_ bl_ me_ co_ H (1 + (577 - n)) (6 + (577 - n) * 24) (pb_EX w bl_ ar_ s_ (608) (14008) H0 RJ16) (F0 m_ 26 ls []) := by
    intro n_
    induction n_ using Nat.strongRecOn with
    | _ n_ ih26 =>
    intro n c9 c7 z7 hgr H hm_ hG hn hz7 hQ9 hC7 hm hla hno hFF ls hl
    obtain ⟨fs7_, hC7o⟩ := hC7.q.o
    refine pb_iload C dX1_stepsByRows_26 (lv_at hl 5 rfl) ?_
    refine pb_ifB_eq C dX1_stepsByRows_28 (tgt := 59) (by decide) (fun c28_ => ?_) (fun c28_ => ?_)
    · refine pb_aload C dX1_stepsByRows_59 (lv_at hl 3 rfl) ?_
      refine pb_iload C dX1_stepsByRows_61 (lv_at hl 0 rfl) ?_
      refine pb_iload C dX1_stepsByRows_63 (lv_at hl 1 rfl) ?_
      refine pb_go_x (bc' := 1 + (577 - n)) (bs' := 6 + (577 - n) * 24) (pb_runV (rest := []) C hG (met_X12_contains l c7 _ (tpI (G s) false (sdG x0 y0) n) hC7.q ((x1 : Nat) : Int) ((y1 : Nat) : Int) (by omega) (by omega)) hC7o (ci := 11) rfl (lw_V q1572 q1034 q1035 q82 q1036) ⟨rfl, hdX12_contains⟩ rfl hl.1 rfl (Nat.le_of_ble_eq_true rfl) ⟨(Nat.le_of_ble_eq_true rfl), (Nat.le_of_ble_eq_true rfl)⟩ dX1_stepsByRows_65) (by omega) (by omega) ?_
      refine pb_ifB_eq C dX1_stepsByRows_68 (tgt := 76) (by decide) (fun c68_ => ?_) (fun c68_ => ?_)
      · skip
        refine pb_ic C dX1_stepsByRows_76 ?_
        exact pb_outX C hFF.all hT (pb_runSX (rest := []) C hG (mex_X1_found l hlx) (lw_S q1573 q1574 q51 q1575) hdX1_found rfl hl.1 rfl (Nat.le_of_ble_eq_true rfl) ⟨(Nat.le_of_ble_eq_true rfl), (Nat.le_of_ble_eq_true rfl)⟩ dX1_stepsByRows_77) (by omega) (by omega)
      · rw [gcI_nat _ hx1 hy1] at c68_
        exact absurd ⟨n, (row_found hgG hx0 hy0 hx1 hy1 c68_ hno).1⟩ hway
    · refine pb_aload C dX1_stepsByRows_31 (lv_at hl 3 rfl) ?_
      refine pb_iload C dX1_stepsByRows_33 (lv_at hl 0 rfl) ?_
      refine pb_iload C dX1_stepsByRows_35 (lv_at hl 1 rfl) ?_
      refine pb_go_x (bc' := 1 + (577 - n)) (bs' := 6 + (577 - n) * 24) (pb_runV (rest := []) C hG (met_X12_contains l c7 _ (tpI (G s) false (sdG x0 y0) n) hC7.q ((x1 : Nat) : Int) ((y1 : Nat) : Int) (by omega) (by omega)) hC7o (ci := 11) rfl (lw_V q1572 q1034 q1035 q82 q1036) ⟨rfl, hdX12_contains⟩ rfl hl.1 rfl (Nat.le_of_ble_eq_true rfl) ⟨(Nat.le_of_ble_eq_true rfl), (Nat.le_of_ble_eq_true rfl)⟩ dX1_stepsByRows_37) (by omega) (by omega) ?_
      refine pb_ifB_ne C dX1_stepsByRows_40 (tgt := 59) (by decide) (fun c40_ => ?_) (fun c40_ => ?_)
      · refine pb_aload C dX1_stepsByRows_59 (lv_at hl 3 rfl) ?_
        refine pb_iload C dX1_stepsByRows_61 (lv_at hl 0 rfl) ?_
        refine pb_iload C dX1_stepsByRows_63 (lv_at hl 1 rfl) ?_
        refine pb_go_x (bc' := 1 + (577 - n)) (bs' := 6 + (577 - n) * 24) (pb_runV (rest := []) C hG (met_X12_contains l c7 _ (tpI (G s) false (sdG x0 y0) n) hC7.q ((x1 : Nat) : Int) ((y1 : Nat) : Int) (by omega) (by omega)) hC7o (ci := 11) rfl (lw_V q1572 q1034 q1035 q82 q1036) ⟨rfl, hdX12_contains⟩ rfl hl.1 rfl (Nat.le_of_ble_eq_true rfl) ⟨(Nat.le_of_ble_eq_true rfl), (Nat.le_of_ble_eq_true rfl)⟩ dX1_stepsByRows_65) (by omega) (by omega) ?_
        refine pb_ifB_eq C dX1_stepsByRows_68 (tgt := 76) (by decide) (fun c68_ => ?_) (fun c68_ => ?_)
        · rw [c40_] at c68_
          cases c68_
        · rw [gcI_nat _ hx1 hy1] at c68_
          exact absurd ⟨n, (row_found hgG hx0 hy0 hx1 hy1 c68_ hno).1⟩ hway
      · rw [gcI_nat _ hx1 hy1] at c40_
        have hnt : ¬ ((tpI (G s) false (sdG x0 y0) n) y1).testBit x1 = true := by rw [c40_]; exact Bool.false_ne_true
        have hall : ∀ m, m < n → spB (tpI (G s) false (sdG x0 y0) m) (G s) false 24 = true := fun m h9 => hm m h9 (Or.inr c28_)
        have hpp := tp_pop (co := false) hgG (sd_ok hx0 hy0) hall
        have hpl := popG_le (tpI (G s) false (sdG x0 y0) n)
        have hpp1 := hpos
        refine pb_aload C dX1_stepsByRows_43 (lv_at hl 3 rfl) ?_
        refine pb_aload C dX1_stepsByRows_45 (lv_at hl 2 rfl) ?_
        refine pb_ic C dX1_stepsByRows_47 ?_
        refine pb_go_i (bc' := 1 + (577 - n) - 1) (bs' := 6 + (577 - n) * 24 - 24) (pb_runV (rest := []) C hG (met_X12_spread l z7 c7 (z7 + 1) c9 _ (tpI (G s) false (sdG x0 y0) n) (G s) false hC7 (by omega) hQ9 (fun h9 => absurd (show z7 + 1 < z7 from h9) (by omega))) hC7o (ci := 11) rfl (lw_V q1584 q1009 q1010 q82 q1011) ⟨rfl, hdX12_spread⟩ rfl hl.1 rfl (Nat.le_of_ble_eq_true rfl) ⟨(Nat.le_of_ble_eq_true rfl), (Nat.le_of_ble_eq_true rfl)⟩ dX1_stepsByRows_48) (by omega) (by omega) (fun z_ H3 hp_ => ?_)
        obtain ⟨rfl, hC7, hF3⟩ := hp_
        have hG := hG.kept (hF3.mono (fun q _ (hq : q < w.2.2.2) => show q ≠ _ from by omega))
        have hFF := hFF.tr (hF3.mono (fun q _ (hq : q < H0.size) => show q ≠ _ from by omega))
        have hQ9 := hQ9.kept (hF3.mono (fun q _ (hq : q < z7) => show q ≠ _ from by omega))
        refine pb_istore C dX1_stepsByRows_51 hl (by decide) rfl fun ls hl => ?_
        have hl : lv_has ls 10 [(9, .int (iZ ((bI ((spB (tpI (G s) false (sdG x0 y0) n) (G s) false 24)))))), (4, .int (iZ (((x1 : Nat) : Int)))), (5, .int (iZ (((y1 : Nat) : Int)))), (6, .ref (c9)), (7, .ref (c7)), (8, .int (iZ (((n : Nat) : Int))))] := hl
        refine pb_iinc C dX1_stepsByRows_53 hl (j := 5) (x := (((n : Nat) : Int))) rfl (by decide) rfl fun ls hl => ?_
        have hl : lv_has ls 10 [(8, .int (iZ ((((n + 1) : Nat) : Int)))), (9, .int (iZ ((bI ((spB (tpI (G s) false (sdG x0 y0) n) (G s) false 24)))))), (4, .int (iZ (((x1 : Nat) : Int)))), (5, .int (iZ (((y1 : Nat) : Int)))), (6, .ref (c9)), (7, .ref (c7))] := hl
        refine pb_goto C dX1_stepsByRows_56 (tgt := 26) (by decide) ?_
        exact pb_V.mono (by omega) (by omega) (ih26 _ (by omega) (n + 1) c9 c7 z7 (spB (tpI (G s) false (sdG x0 y0) n) (G s) false 24) H3 rfl hG (by omega) (by omega) hQ9 hC7 (fun m h9 h8 => by rcases Nat.lt_or_ge m n with h7 | h7; exact hall m h7; rw [show m = n from by omega]; rcases h8 with h8 | h8; omega; exact h8) (fun h9 => ⟨by omega, h9⟩) (fun m h9 => by rcases Nat.lt_or_ge m n with h7 | h7; exact hno m h7; rw [show m = n from by omega]; exact hnt) hFF ls (lv_sub hl [2, 3, 4, 5, 0, 1] rfl))
  refine pb_aload_n C dX1_stepsByRows_0 rfl (lv_at hl 0 rfl) ?_
  refine pb_iload_n C dX1_stepsByRows_1 rfl (lv_at hl 1 rfl) ?_
  refine pb_iload_n C dX1_stepsByRows_2 rfl (lv_at hl 2 rfl) ?_
  refine pb_iload_n C dX1_stepsByRows_3 rfl (lv_at hl 3 rfl) ?_
  refine pb_iload C dX1_stepsByRows_4 (lv_at hl 4 rfl) ?_
  refine pb_iload C dX1_stepsByRows_6 (lv_at hl 5 rfl) ?_
  refine pb_go_r (bc' := 580) (bs' := 13879) (pb_runV (rest := []) C hG (met_X1_checkedCells l b sl pv V _ G hS s hs x0 y0 x1 y1 hx0 hy0 hx1 hy1 h0 h1) hBo (ci := 0) rfl (lw_V q1548 q1550 qs23 q51 q1551) ⟨rfl, hdX1_checkedCells⟩ rfl hl.1 rfl (Nat.le_of_ble_eq_true rfl) ⟨(Nat.le_of_ble_eq_true rfl), (Nat.le_of_ble_eq_true rfl)⟩ dX1_stepsByRows_8) (by omega) (by omega) (fun c9 H1 hp_ => ?_)
  obtain ⟨z9, r9, hz9, hC9, hF1⟩ := hp_
  have hs1 := hF1.1
  have hG := hG.kept (hF1.mono (fun q _ (hq : q < w.2.2.2) => show q < _ from by omega))
  have hFF := hFF.tr hF1
  have hcz := hC9.1
  have hclt := hC9.2.2.1.lt
  have hrlt := hC9.2.2.2.1.lt
  have hQ9 : Cq w H1 (fun q => q < H1.size) c9 (G s) := hC9.q.mono (fun q h9 _ => h9)
  refine pb_astore C dX1_stepsByRows_11 hl (by decide) rfl fun ls hl => ?_
  have hl : lv_has ls 10 [(6, .ref (c9)), (0, .ref (b)), (1, .int (iZ (((s : Nat) : Int)))), (2, .int (iZ (((x0 : Nat) : Int)))), (3, .int (iZ (((y0 : Nat) : Int)))), (4, .int (iZ (((x1 : Nat) : Int)))), (5, .int (iZ (((y1 : Nat) : Int))))] := hl
  refine pb_iload_n C dX1_stepsByRows_13 rfl (lv_at hl 3 rfl) ?_
  refine pb_iload_n C dX1_stepsByRows_14 rfl (lv_at hl 4 rfl) ?_
  refine pb_go_r (bc' := 578) (bs' := 13854) (pb_runS (rest := []) C hG (met_X12_at l x0 y0 hx0 hy0) (lw_S q1583 q1006 q82 q1007) hdX12_at rfl hl.1 rfl (Nat.le_of_ble_eq_true rfl) ⟨(Nat.le_of_ble_eq_true rfl), (Nat.le_of_ble_eq_true rfl)⟩ dX1_stepsByRows_15) (by omega) (by omega) (fun c7 H2 hp_ => ?_)
  obtain ⟨hC7, hF2⟩ := hp_
  have hs2 := hF2.1
  have hG := hG.kept (hF2.mono (fun q _ (hq : q < w.2.2.2) => show q < _ from by omega))
  have hFF := hFF.tr (hF2.mono (fun q _ (hq : q < H0.size) => show q < _ from by omega))
  have hQ9 := hQ9.kept hF2
  have hC7 : Cb w H2 H1.size c7 (H1.size + 1) (tpI (G s) false (sdG x0 y0) 0) := hC7
  obtain ⟨z7, hz7⟩ : ∃ z, z = H1.size := ⟨_, rfl⟩
  rw [← hz7] at hQ9 hC7
  refine pb_astore C dX1_stepsByRows_18 hl (by decide) rfl fun ls hl => ?_
  have hl : lv_has ls 10 [(7, .ref (c7)), (6, .ref (c9)), (0, .ref (b)), (1, .int (iZ (((s : Nat) : Int)))), (2, .int (iZ (((x0 : Nat) : Int)))), (3, .int (iZ (((y0 : Nat) : Int)))), (4, .int (iZ (((x1 : Nat) : Int)))), (5, .int (iZ (((y1 : Nat) : Int))))] := hl
  refine pb_ic C dX1_stepsByRows_20 ?_
  refine pb_istore C dX1_stepsByRows_21 hl (by decide) rfl fun ls hl => ?_
  have hl : lv_has ls 10 [(8, .int (iZ (0))), (7, .ref (c7)), (6, .ref (c9)), (0, .ref (b)), (1, .int (iZ (((s : Nat) : Int)))), (2, .int (iZ (((x0 : Nat) : Int)))), (3, .int (iZ (((y0 : Nat) : Int)))), (4, .int (iZ (((x1 : Nat) : Int)))), (5, .int (iZ (((y1 : Nat) : Int))))] := hl
  refine pb_ic C dX1_stepsByRows_23 ?_
  refine pb_istore C dX1_stepsByRows_24 hl (by decide) rfl fun ls hl => ?_
  have hl : lv_has ls 10 [(9, .int (iZ (1))), (8, .int (iZ (0))), (7, .ref (c7)), (6, .ref (c9)), (0, .ref (b)), (1, .int (iZ (((s : Nat) : Int)))), (2, .int (iZ (((x0 : Nat) : Int)))), (3, .int (iZ (((y0 : Nat) : Int)))), (4, .int (iZ (((x1 : Nat) : Int)))), (5, .int (iZ (((y1 : Nat) : Int))))] := hl
  exact pb_V.mono (by omega) (by omega) (L26 _ 0 c9 c7 z7 true H2 rfl hG (by decide) (by omega) hQ9 hC7 (fun m h9 _ => absurd h9 (Nat.not_lt_zero m)) (fun h9 => by cases h9) (fun m h9 => absurd h9 (Nat.not_lt_zero m)) hFF ls (lv_sub hl [8, 9, 3, 2, 1, 0] rfl))

