set_option maxRecDepth 100000
set_option maxHeartbeats 1000000 in
theorem met_X3_isIn {w : pb_W} (l : Launch) {H : Heap} (x a b : Int) (hx : -2147483648 ≤ x ∧ x ≤ 2147483647) (ha : -2147483648 ≤ a ∧ a ≤ 2147483647) (hb : -2147483648 ≤ b ∧ b ≤ 2147483647) : pb_M w l yX3_isIn cX3_isIn 3 (some .boolean) 0 (0) (0) [.int (iZ (x)), .int (iZ (a)), .int (iZ (b))] H (pb_qx (.int (iZ (bI (decide (a ≤ x ∧ x ≤ b))))) H) := by
  refine pb_of (by decide +kernel) (Nat.le_of_ble_eq_true rfl) ?_
  intro p_ e_ s_ m_ ar_ bl_ me_ co_ ls C hh hG hl
  have hl : lv_has ls 3 [(0, .int (iZ (x))), (1, .int (iZ (a))), (2, .int (iZ (b)))] := hl
  refine pb_iload_n C dX3_isIn_0 rfl (lv_at hl 0 rfl) ?_
  refine pb_iload_n C dX3_isIn_1 rfl (lv_at hl 1 rfl) ?_
  refine pb_icmp_lt C dX3_isIn_2 (x := x) (y := a) (tgt := 14) (by decide) (by omega) (by omega) (fun c2_ => ?_) (fun c2_ => ?_)
  · refine pb_ic C dX3_isIn_14 ?_
    exact pb_zret C dX3_isIn_15 (by decide +kernel) (⟨by rw [bI_f (decide_eq_false (by omega))], rfl⟩)
  · refine pb_iload_n C dX3_isIn_5 rfl (lv_at hl 0 rfl) ?_
    refine pb_iload_n C dX3_isIn_6 rfl (lv_at hl 2 rfl) ?_
    refine pb_icmp_gt C dX3_isIn_7 (x := x) (y := b) (tgt := 14) (by decide) (by omega) (by omega) (fun c7_ => ?_) (fun c7_ => ?_)
    · refine pb_ic C dX3_isIn_14 ?_
      exact pb_zret C dX3_isIn_15 (by decide +kernel) (⟨by rw [bI_f (decide_eq_false (by omega))], rfl⟩)
    · refine pb_ic C dX3_isIn_10 ?_
      refine pb_goto C dX3_isIn_11 (tgt := 15) (by decide) ?_
      exact pb_zret C dX3_isIn_15 (by decide +kernel) (⟨by rw [bI_t (decide_eq_true (by omega))], rfl⟩)

set_option maxHeartbeats 1000000 in
theorem met_X3_isSheet {w : pb_W} (l : Launch) {H : Heap} (x : Int) (hx : -2147483648 ≤ x ∧ x ≤ 2147483647) : pb_M w l yX3_isSheet cX3_isSheet 1 (some .boolean) 1 (0) (0) [.int (iZ (x))] H (pb_qx (.int (iZ (bI (decide (0 ≤ x ∧ x ≤ 7))))) H) := by
  refine pb_of (by decide +kernel) (Nat.le_of_ble_eq_true rfl) ?_
  intro p_ e_ s_ m_ ar_ bl_ me_ co_ ls C hh hG hl
  have hl : lv_has ls 1 [(0, .int (iZ (x)))] := hl
  refine pb_iload_n C dX3_isSheet_0 rfl (lv_at hl 0 rfl) ?_
  refine pb_ic C dX3_isSheet_1 ?_
  refine pb_bip C dX3_isSheet_2 (by decide) ?_
  refine pb_go_x (bc' := 0) (bs' := 0) (pb_runS (rest := []) C hG (met_X3_isIn l x 0 7 (by omega) (by omega) (by omega)) (lw_S q1797 q1798 q60 q1799) hdX3_isIn rfl hl.1 rfl (Nat.le_of_ble_eq_true rfl) ⟨(Nat.le_of_ble_eq_true rfl), (Nat.le_of_ble_eq_true rfl)⟩ dX3_isSheet_4) (by omega) (by omega) ?_
  exact pb_zret C dX3_isSheet_7 (pb_nar (decide (0 ≤ x ∧ x ≤ 7))) (⟨rfl, rfl⟩)

set_option maxHeartbeats 1000000 in
theorem met_X3_isCell {w : pb_W} (l : Launch) {H : Heap} (x y : Int) (hx : -2147483648 ≤ x ∧ x ≤ 2147483647) (hy : -2147483648 ≤ y ∧ y ≤ 2147483647) : pb_M w l yX3_isCell cX3_isCell 2 (some .boolean) 1 (0) (0) [.int (iZ (x)), .int (iZ (y))] H (pb_qx (.int (iZ (bI (decide ((0 ≤ x ∧ x ≤ 23) ∧ 0 ≤ y ∧ y ≤ 23))))) H) := by
  refine pb_of (by decide +kernel) (Nat.le_of_ble_eq_true rfl) ?_
  intro p_ e_ s_ m_ ar_ bl_ me_ co_ ls C hh hG hl
  have hl : lv_has ls 2 [(0, .int (iZ (x))), (1, .int (iZ (y)))] := hl
  refine pb_iload_n C dX3_isCell_0 rfl (lv_at hl 0 rfl) ?_
  refine pb_ic C dX3_isCell_1 ?_
  refine pb_bip C dX3_isCell_2 (by decide) ?_
  refine pb_go_x (bc' := 0) (bs' := 0) (pb_runS (rest := []) C hG (met_X3_isIn l x 0 23 (by omega) (by omega) (by omega)) (lw_S q1797 q1798 q60 q1799) hdX3_isIn rfl hl.1 rfl (Nat.le_of_ble_eq_true rfl) ⟨(Nat.le_of_ble_eq_true rfl), (Nat.le_of_ble_eq_true rfl)⟩ dX3_isCell_4) (by omega) (by omega) ?_
  refine pb_ifB_eq C dX3_isCell_7 (tgt := 24) (by decide) (fun c7_ => ?_) (fun c7_ => ?_)
  · have c7_ := of_decide_eq_false c7_
    refine pb_ic C dX3_isCell_24 ?_
    exact pb_zret C dX3_isCell_25 (by decide +kernel) (⟨by rw [bI_f (decide_eq_false (by omega))], rfl⟩)
  · have c7_ := of_decide_eq_true c7_
    refine pb_iload_n C dX3_isCell_10 rfl (lv_at hl 1 rfl) ?_
    refine pb_ic C dX3_isCell_11 ?_
    refine pb_bip C dX3_isCell_12 (by decide) ?_
    refine pb_go_x (bc' := 0) (bs' := 0) (pb_runS (rest := []) C hG (met_X3_isIn l y 0 23 (by omega) (by omega) (by omega)) (lw_S q1797 q1798 q60 q1799) hdX3_isIn rfl hl.1 rfl (Nat.le_of_ble_eq_true rfl) ⟨(Nat.le_of_ble_eq_true rfl), (Nat.le_of_ble_eq_true rfl)⟩ dX3_isCell_14) (by omega) (by omega) ?_
    refine pb_ifB_eq C dX3_isCell_17 (tgt := 24) (by decide) (fun c17_ => ?_) (fun c17_ => ?_)
    · have c17_ := of_decide_eq_false c17_
      refine pb_ic C dX3_isCell_24 ?_
      exact pb_zret C dX3_isCell_25 (by decide +kernel) (⟨by rw [bI_f (decide_eq_false (by omega))], rfl⟩)
    · have c17_ := of_decide_eq_true c17_
      refine pb_ic C dX3_isCell_20 ?_
      refine pb_goto C dX3_isCell_21 (tgt := 25) (by decide) ?_
      exact pb_zret C dX3_isCell_25 (by decide +kernel) (⟨by rw [bI_t (decide_eq_true (by omega))], rfl⟩)

set_option maxHeartbeats 1000000 in
theorem met_X3_isPoint {w : pb_W} (l : Launch) {H : Heap} (x y : Int) (hx : -2147483648 ≤ x ∧ x ≤ 2147483647) (hy : -2147483648 ≤ y ∧ y ≤ 2147483647) : pb_M w l yX3_isPoint cX3_isPoint 2 (some .boolean) 1 (0) (0) [.int (iZ (x)), .int (iZ (y))] H (pb_qx (.int (iZ (bI (decide ((0 ≤ x ∧ x ≤ 24) ∧ 0 ≤ y ∧ y ≤ 24))))) H) := by
  refine pb_of (by decide +kernel) (Nat.le_of_ble_eq_true rfl) ?_
  intro p_ e_ s_ m_ ar_ bl_ me_ co_ ls C hh hG hl
  have hl : lv_has ls 2 [(0, .int (iZ (x))), (1, .int (iZ (y)))] := hl
  refine pb_iload_n C dX3_isPoint_0 rfl (lv_at hl 0 rfl) ?_
  refine pb_ic C dX3_isPoint_1 ?_
  refine pb_bip C dX3_isPoint_2 (by decide) ?_
  refine pb_go_x (bc' := 0) (bs' := 0) (pb_runS (rest := []) C hG (met_X3_isIn l x 0 24 (by omega) (by omega) (by omega)) (lw_S q1797 q1798 q60 q1799) hdX3_isIn rfl hl.1 rfl (Nat.le_of_ble_eq_true rfl) ⟨(Nat.le_of_ble_eq_true rfl), (Nat.le_of_ble_eq_true rfl)⟩ dX3_isPoint_4) (by omega) (by omega) ?_
  refine pb_ifB_eq C dX3_isPoint_7 (tgt := 24) (by decide) (fun c7_ => ?_) (fun c7_ => ?_)
  · have c7_ := of_decide_eq_false c7_
    refine pb_ic C dX3_isPoint_24 ?_
    exact pb_zret C dX3_isPoint_25 (by decide +kernel) (⟨by rw [bI_f (decide_eq_false (by omega))], rfl⟩)
  · have c7_ := of_decide_eq_true c7_
    refine pb_iload_n C dX3_isPoint_10 rfl (lv_at hl 1 rfl) ?_
    refine pb_ic C dX3_isPoint_11 ?_
    refine pb_bip C dX3_isPoint_12 (by decide) ?_
    refine pb_go_x (bc' := 0) (bs' := 0) (pb_runS (rest := []) C hG (met_X3_isIn l y 0 24 (by omega) (by omega) (by omega)) (lw_S q1797 q1798 q60 q1799) hdX3_isIn rfl hl.1 rfl (Nat.le_of_ble_eq_true rfl) ⟨(Nat.le_of_ble_eq_true rfl), (Nat.le_of_ble_eq_true rfl)⟩ dX3_isPoint_14) (by omega) (by omega) ?_
    refine pb_ifB_eq C dX3_isPoint_17 (tgt := 24) (by decide) (fun c17_ => ?_) (fun c17_ => ?_)
    · have c17_ := of_decide_eq_false c17_
      refine pb_ic C dX3_isPoint_24 ?_
      exact pb_zret C dX3_isPoint_25 (by decide +kernel) (⟨by rw [bI_f (decide_eq_false (by omega))], rfl⟩)
    · have c17_ := of_decide_eq_true c17_
      refine pb_ic C dX3_isPoint_20 ?_
      refine pb_goto C dX3_isPoint_21 (tgt := 25) (by decide) ?_
      exact pb_zret C dX3_isPoint_25 (by decide +kernel) (⟨by rw [bI_t (decide_eq_true (by omega))], rfl⟩)

set_option maxHeartbeats 1000000 in
theorem met_X3_isBox {w : pb_W} (l : Launch) {H : Heap} (a b c d : Int) (ha : -2147483648 ≤ a ∧ a ≤ 2147483647) (hb : -2147483648 ≤ b ∧ b ≤ 2147483647) (hc : -2147483648 ≤ c ∧ c ≤ 2147483647) (hd : -2147483648 ≤ d ∧ d ≤ 2147483647) : pb_M w l yX3_isBox cX3_isBox 4 (some .boolean) 0 (0) (0) [.int (iZ (a)), .int (iZ (b)), .int (iZ (c)), .int (iZ (d))] H (pb_qx (.int (iZ (bI (decide (0 ≤ a ∧ 0 ≤ b ∧ c ≤ 24 ∧ d ≤ 24 ∧ a < c ∧ b < d))))) H) := by
  refine pb_of (by decide +kernel) (Nat.le_of_ble_eq_true rfl) ?_
  intro p_ e_ s_ m_ ar_ bl_ me_ co_ ls C hh hG hl
  have hl : lv_has ls 4 [(0, .int (iZ (a))), (1, .int (iZ (b))), (2, .int (iZ (c))), (3, .int (iZ (d)))] := hl
  refine pb_iload_n C dX3_isBox_0 rfl (lv_at hl 0 rfl) ?_
  refine pb_if_lt C dX3_isBox_1 (x := a) (tgt := 34) (by decide) (by omega) (fun c1_ => ?_) (fun c1_ => ?_)
  · refine pb_ic C dX3_isBox_34 ?_
    exact pb_zret C dX3_isBox_35 (by decide +kernel) (⟨by rw [bI_f (decide_eq_false (by omega))], rfl⟩)
  · refine pb_iload_n C dX3_isBox_4 rfl (lv_at hl 1 rfl) ?_
    refine pb_if_lt C dX3_isBox_5 (x := b) (tgt := 34) (by decide) (by omega) (fun c5_ => ?_) (fun c5_ => ?_)
    · refine pb_ic C dX3_isBox_34 ?_
      exact pb_zret C dX3_isBox_35 (by decide +kernel) (⟨by rw [bI_f (decide_eq_false (by omega))], rfl⟩)
    · refine pb_iload_n C dX3_isBox_8 rfl (lv_at hl 2 rfl) ?_
      refine pb_bip C dX3_isBox_9 (by decide) ?_
      refine pb_icmp_gt C dX3_isBox_11 (x := c) (y := 24) (tgt := 34) (by decide) (by omega) (by omega) (fun c11_ => ?_) (fun c11_ => ?_)
      · refine pb_ic C dX3_isBox_34 ?_
        exact pb_zret C dX3_isBox_35 (by decide +kernel) (⟨by rw [bI_f (decide_eq_false (by omega))], rfl⟩)
      · refine pb_iload_n C dX3_isBox_14 rfl (lv_at hl 3 rfl) ?_
        refine pb_bip C dX3_isBox_15 (by decide) ?_
        refine pb_icmp_gt C dX3_isBox_17 (x := d) (y := 24) (tgt := 34) (by decide) (by omega) (by omega) (fun c17_ => ?_) (fun c17_ => ?_)
        · refine pb_ic C dX3_isBox_34 ?_
          exact pb_zret C dX3_isBox_35 (by decide +kernel) (⟨by rw [bI_f (decide_eq_false (by omega))], rfl⟩)
        · refine pb_iload_n C dX3_isBox_20 rfl (lv_at hl 0 rfl) ?_
          refine pb_iload_n C dX3_isBox_21 rfl (lv_at hl 2 rfl) ?_
          refine pb_icmp_ge C dX3_isBox_22 (x := a) (y := c) (tgt := 34) (by decide) (by omega) (by omega) (fun c22_ => ?_) (fun c22_ => ?_)
          · refine pb_ic C dX3_isBox_34 ?_
            exact pb_zret C dX3_isBox_35 (by decide +kernel) (⟨by rw [bI_f (decide_eq_false (by omega))], rfl⟩)
          · refine pb_iload_n C dX3_isBox_25 rfl (lv_at hl 1 rfl) ?_
            refine pb_iload_n C dX3_isBox_26 rfl (lv_at hl 3 rfl) ?_
            refine pb_icmp_ge C dX3_isBox_27 (x := b) (y := d) (tgt := 34) (by decide) (by omega) (by omega) (fun c27_ => ?_) (fun c27_ => ?_)
            · refine pb_ic C dX3_isBox_34 ?_
              exact pb_zret C dX3_isBox_35 (by decide +kernel) (⟨by rw [bI_f (decide_eq_false (by omega))], rfl⟩)
            · refine pb_ic C dX3_isBox_30 ?_
              refine pb_goto C dX3_isBox_31 (tgt := 35) (by decide) ?_
              exact pb_zret C dX3_isBox_35 (by decide +kernel) (⟨by rw [bI_t (decide_eq_true (by omega))], rfl⟩)

set_option maxHeartbeats 1000000 in
theorem met_X3_row {w : pb_W} (l : Launch) {H : Heap} (o : Nat) (S : mS) (hM : MW w H o S) (s : Nat) (hs : s < 8) (y : Int) (hy : -2147483648 ≤ y ∧ y ≤ 2147483647) : pb_M w l yX3_row cX3_row 3 (some .int) 2 (0) (0) [.ref (o), .int (iZ (((s : Nat) : Int))), .int (iZ (y))] H (pb_qx (.int (iZ ((gr (mg S s) y : Nat) : Int))) H) := by
  refine pb_of (by decide +kernel) (Nat.le_of_ble_eq_true rfl) ?_
  intro p_ e_ s_ m_ ar_ bl_ me_ co_ ls C hh hG hl
  have hl : lv_has ls 3 [(0, .ref (o)), (1, .int (iZ (((s : Nat) : Int)))), (2, .int (iZ (y)))] := hl
  have hM0 := hM; obtain ⟨hz, hO, hA1, hA2, hA3, hA4, hA5, hA6, hA7, hA8, hA9, hA10, hA11, hA12⟩ := hM0
  refine pb_iload_n C dX3_row_0 rfl (lv_at hl 2 rfl) ?_
  refine pb_ic C dX3_row_1 ?_
  refine pb_bip C dX3_row_2 (by decide) ?_
  refine pb_go_x (bc' := 0) (bs' := 0) (pb_runS (rest := []) C hG (met_X3_isIn l y 0 23 (by omega) (by omega) (by omega)) (lw_S q1797 q1798 q60 q1799) hdX3_isIn rfl hl.1 rfl (Nat.le_of_ble_eq_true rfl) ⟨(Nat.le_of_ble_eq_true rfl), (Nat.le_of_ble_eq_true rfl)⟩ dX3_row_4) (by omega) (by omega) ?_
  refine pb_ifB_eq C dX3_row_7 (tgt := 24) (by decide) (fun c7_ => ?_) (fun c7_ => ?_)
  · have c7_ := of_decide_eq_false c7_
    refine pb_ic C dX3_row_24 ?_
    exact pb_iret C dX3_row_25 (⟨by rw [gr_out c7_]; rfl, rfl⟩)
  · have c7_ := of_decide_eq_true c7_
    refine pb_aload_n C dX3_row_10 rfl (lv_at hl 0 rfl) ?_
    refine pb_get C in_X3 hO.r (ci := 2) rfl 2 (by decide) q1739 (fun _ h9 => h9) (v := .ref (o + 1)) rfl dX3_row_11 ?_
    refine pb_bip C dX3_row_14 (by decide) ?_
    refine pb_iload_n C dX3_row_16 rfl (lv_at hl 1 rfl) ?_
    refine pb_imul C dX3_row_17 ?_
    refine pb_iload_n C dX3_row_18 rfl (lv_at hl 2 rfl) ?_
    refine pb_iadd C dX3_row_19 ?_
    refine pb_iald C hA1.b (i := ((((24 * s) : Nat) : Int) + y)) (v := .int (iZ ((((S.2.1 0 ((((((24 * s) : Nat) : Int) + y)).toNat)) : Nat) : Int)))) (by omega) rfl dX3_row_20 ?_
    refine pb_goto C dX3_row_21 (tgt := 25) (by decide) ?_
    exact pb_iret C dX3_row_25 (⟨by rw [gr_in c7_], rfl⟩)

set_option maxHeartbeats 1000000 in
theorem met_X3_has {w : pb_W} (l : Launch) {H : Heap} (o : Nat) (S : mS) (hM : MW w H o S) (s : Nat) (hs : s < 8) (hb : mok S) (x y : Int) (hx : -2147483648 ≤ x ∧ x ≤ 2147483647) (hy : -2147483648 ≤ y ∧ y ≤ 2147483647) : pb_M w l yX3_has cX3_has 4 (some .boolean) 3 (0) (0) [.ref (o), .int (iZ (((s : Nat) : Int))), .int (iZ (x)), .int (iZ (y))] H (pb_qx (.int (iZ (bI (gc (mg S s) x y)))) H) := by
  refine pb_of (by decide +kernel) (Nat.le_of_ble_eq_true rfl) ?_
  intro p_ e_ s_ m_ ar_ bl_ me_ co_ ls C hh hG hl
  have hl : lv_has ls 4 [(0, .ref (o)), (1, .int (iZ (((s : Nat) : Int)))), (2, .int (iZ (x))), (3, .int (iZ (y)))] := hl
  have hM0 := hM; obtain ⟨hz, hO, hA1, hA2, hA3, hA4, hA5, hA6, hA7, hA8, hA9, hA10, hA11, hA12⟩ := hM0
  refine pb_iload_n C dX3_has_0 rfl (lv_at hl 2 rfl) ?_
  refine pb_iload_n C dX3_has_1 rfl (lv_at hl 3 rfl) ?_
  refine pb_go_x (bc' := 0) (bs' := 0) (pb_runS (rest := []) C hG (met_X3_isCell l x y (by omega) (by omega)) (lw_S q1879 q1880 q60 q1881) hdX3_isCell rfl hl.1 rfl (Nat.le_of_ble_eq_true rfl) ⟨(Nat.le_of_ble_eq_true rfl), (Nat.le_of_ble_eq_true rfl)⟩ dX3_has_2) (by omega) (by omega) ?_
  refine pb_ifB_eq C dX3_has_5 (tgt := 26) (by decide) (fun c5_ => ?_) (fun c5_ => ?_)
  · have c5_ := of_decide_eq_false c5_
    refine pb_ic C dX3_has_26 ?_
    exact pb_zret C dX3_has_27 (by decide +kernel) (⟨(by first | (rw [gc_out (mg_ok hb hs) c5_]; rfl) | (rw [gc_eq _ c5_.1, bI_f (decide_eq_false c19_)])), rfl⟩)
  · have c5_ := of_decide_eq_true c5_
    refine pb_aload_n C dX3_has_8 rfl (lv_at hl 0 rfl) ?_
    refine pb_iload_n C dX3_has_9 rfl (lv_at hl 1 rfl) ?_
    refine pb_iload_n C dX3_has_10 rfl (lv_at hl 3 rfl) ?_
    refine pb_go_x (bc' := 0) (bs' := 0) (pb_runV (rest := []) C hG (met_X3_row l o S hM s (by omega) y (by omega)) hO.r (ci := 2) rfl (lw_V q1807 q1809 qs28 q60 q1810) ⟨rfl, hdX3_row⟩ rfl hl.1 rfl (Nat.le_of_ble_eq_true rfl) ⟨(Nat.le_of_ble_eq_true rfl), (Nat.le_of_ble_eq_true rfl)⟩ dX3_has_11) (by omega) (by omega) ?_
    have hk_ := gr_lt (mg_ok hb hs) y
    refine pb_iload_n C dX3_has_14 rfl (lv_at hl 2 rfl) ?_
    refine pb_eq (g2 := F0 m_ 15 ls [.int (iZ (((x.toNat : Nat) : Int))), .int (iZ ((((gr (mg S s) y) : Nat) : Int)))]) (congrArg (fun z9 => F0 m_ 15 ls [.int (iZ z9), .int (iZ ((((gr (mg S s) y) : Nat) : Int)))]) (show x = ((x.toNat : Nat) : Int) from (by omega))) ?_
    refine pb_ishr C dX3_has_15 (x := (gr (mg S s) y)) (y := x.toNat) (by omega) (by omega) ?_
    refine pb_ic C dX3_has_16 ?_
    refine pb_iand C dX3_has_17 (x := ((gr (mg S s) y) >>> x.toNat)) (y := 1) ?_
    refine pb_ic C dX3_has_18 ?_
    refine pb_icmp_ne C dX3_has_19 (x := (((((gr (mg S s) y) >>> x.toNat) &&& 1) : Nat) : Int)) (y := 1) (tgt := 26) (by decide) (pb_a1 _) (by omega) (fun c19_ => ?_) (fun c19_ => ?_)
    · refine pb_ic C dX3_has_26 ?_
      exact pb_zret C dX3_has_27 (by decide +kernel) (⟨(by first | (rw [gc_out (mg_ok hb hs) c5_]; rfl) | (rw [gc_eq _ c5_.1, bI_f (decide_eq_false c19_)])), rfl⟩)
    · refine pb_ic C dX3_has_22 ?_
      refine pb_goto C dX3_has_23 (tgt := 27) (by decide) ?_
      exact pb_zret C dX3_has_27 (by decide +kernel) (⟨by rw [gc_eq _ c5_.1, bI_t (decide_eq_true c19_)], rfl⟩)

set_option maxHeartbeats 1000000 in
theorem met_X3_bits {w : pb_W} (l : Launch) {H : Heap} (set : Nat) (hs : set < 2147483648) : pb_M w l yX3_bits cX3_bits 3 (some .int) 0 (0) (0) [.int (iZ (((set : Nat) : Int)))] H (pb_qx (.int (iZ ((pop 32 set : Nat) : Int))) H) := by
  refine pb_of (by decide +kernel) (Nat.le_of_ble_eq_true rfl) ?_
  intro p_ e_ s_ m_ ar_ bl_ me_ co_ ls C hh hG hl
  have hl : lv_has ls 3 [(0, .int (iZ (((set : Nat) : Int))))] := hl
  have L4 : ∀ (n_ : Nat) (n left : Nat), left = n_ → (left < 2147483648) → (pop 32 left + n = pop 32 set) → ∀ (ls : Array Slot), lv_has ls 3 [(1, .int (iZ (((n : Nat) : Int)))), (2, .int (iZ (((left : Nat) : Int))))] → pb_V w.2.2.2 p_ l e_ (pb_rm 0 (0) (0)) s_ m_ ar_ bl_ me_ co_ H (0) (0) (pb_E w bl_ ar_ s_ (0) (0) (pb_qx (.int (iZ ((pop 32 set : Nat) : Int))) H)) (F0 m_ 4 ls []) := by
    intro n_
    induction n_ using Nat.strongRecOn with
    | _ n_ ih4 =>
    intro n left hm_ h1 h2 ls hl
    refine pb_iload_n C dX3_bits_4 rfl (lv_at hl 1 rfl) ?_
    refine pb_if_eq C dX3_bits_5 (x := ((left : Nat) : Int)) (tgt := 20) (by decide) (by omega) (fun c5_ => ?_) (fun c5_ => ?_)
    · refine pb_iload_n C dX3_bits_20 rfl (lv_at hl 0 rfl) ?_
      exact pb_iret C dX3_bits_21 (⟨by rw [show n = pop 32 set from by rw [← h2, show left = 0 from by omega, pop_zero]; omega], rfl⟩)
    · have h3 := pop_clear 32 left (by omega) (by omega)
      have h4 := and_pred_lt (n := left) (by omega)
      have h5 := pop_le 32 set
      refine pb_iinc C dX3_bits_8 hl (j := 0) (x := (((n : Nat) : Int))) rfl (by decide) rfl fun ls hl => ?_
      have hl : lv_has ls 3 [(1, .int (iZ ((((n + 1) : Nat) : Int)))), (2, .int (iZ (((left : Nat) : Int))))] := hl
      refine pb_iload_n C dX3_bits_11 rfl (lv_at hl 1 rfl) ?_
      refine pb_iload_n C dX3_bits_12 rfl (lv_at hl 1 rfl) ?_
      refine pb_ic C dX3_bits_13 ?_
      refine pb_isub C dX3_bits_14 ?_
      refine pb_eq (g2 := F0 m_ 15 ls [.int (iZ ((((left - 1) : Nat) : Int))), .int (iZ (((left : Nat) : Int)))]) (congrArg (fun z9 => F0 m_ 15 ls [.int (iZ z9), .int (iZ (((left : Nat) : Int)))]) (show (((left : Nat) : Int) - 1) = (((left - 1) : Nat) : Int) from (by omega))) ?_
      refine pb_iand C dX3_bits_15 (x := left) (y := (left - 1)) ?_
      refine pb_istore_n C dX3_bits_16 rfl hl (by decide) rfl fun ls hl => ?_
      have hl : lv_has ls 3 [(2, .int (iZ ((((left &&& (left - 1)) : Nat) : Int)))), (1, .int (iZ ((((n + 1) : Nat) : Int))))] := hl
      refine pb_goto C dX3_bits_17 (tgt := 4) (by decide) ?_
      exact pb_V.mono (by omega) (by omega) (ih4 _ (by omega) (n + 1) (left &&& (left - 1)) rfl (by omega) (by first | omega | (have := pop_clear 32 left (by omega) h1; omega)) ls (lv_sub hl [1, 0] rfl))
  refine pb_ic C dX3_bits_0 ?_
  refine pb_istore_n C dX3_bits_1 rfl hl (by decide) rfl fun ls hl => ?_
  have hl : lv_has ls 3 [(1, .int (iZ (0))), (0, .int (iZ (((set : Nat) : Int))))] := hl
  refine pb_iload_n C dX3_bits_2 rfl (lv_at hl 1 rfl) ?_
  refine pb_istore_n C dX3_bits_3 rfl hl (by decide) rfl fun ls hl => ?_
  have hl : lv_has ls 3 [(2, .int (iZ (((set : Nat) : Int)))), (1, .int (iZ (0))), (0, .int (iZ (((set : Nat) : Int))))] := hl
  exact pb_V.mono (by omega) (by omega) (L4 _ 0 set rfl (by omega) (by first | omega | (have := pop_clear 32 left (by omega) h1; omega)) ls (lv_sub hl [1, 0] rfl))

set_option maxHeartbeats 1000000 in
theorem met_X3_isLine {w : pb_W} (l : Launch) {H : Heap} (x y a b : Int) (hx : -2147483648 ≤ x ∧ x ≤ 2147483647) (hy : -2147483648 ≤ y ∧ y ≤ 2147483647) (ha : -2147483648 ≤ a ∧ a ≤ 2147483647) (hb : -2147483648 ≤ b ∧ b ≤ 2147483647) : pb_M w l yX3_isLine cX3_isLine 4 (some .boolean) 0 (0) (0) [.int (iZ (x)), .int (iZ (y)), .int (iZ (a)), .int (iZ (b))] H (pb_qx (.int (iZ (bI (decide (¬ (x = a ↔ y = b)))))) H) := by
  refine pb_of (by decide +kernel) (Nat.le_of_ble_eq_true rfl) ?_
  intro p_ e_ s_ m_ ar_ bl_ me_ co_ ls C hh hG hl
  have hl : lv_has ls 4 [(0, .int (iZ (x))), (1, .int (iZ (y))), (2, .int (iZ (a))), (3, .int (iZ (b)))] := hl
  refine pb_iload_n C dX3_isLine_0 rfl (lv_at hl 0 rfl) ?_
  refine pb_iload_n C dX3_isLine_1 rfl (lv_at hl 2 rfl) ?_
  refine pb_icmp_ne C dX3_isLine_2 (x := x) (y := a) (tgt := 9) (by decide) (by omega) (by omega) (fun c2_ => ?_) (fun c2_ => ?_)
  · refine pb_ic C dX3_isLine_9 ?_
    refine pb_iload_n C dX3_isLine_10 rfl (lv_at hl 1 rfl) ?_
    refine pb_iload_n C dX3_isLine_11 rfl (lv_at hl 3 rfl) ?_
    refine pb_icmp_ne C dX3_isLine_12 (x := y) (y := b) (tgt := 19) (by decide) (by omega) (by omega) (fun c12_ => ?_) (fun c12_ => ?_)
    · refine pb_ic C dX3_isLine_19 ?_
      refine pb_icmp_eq C dX3_isLine_20 (x := 0) (y := 0) (tgt := 27) (by decide) (by omega) (by omega) (fun c20_ => ?_) (fun c20_ => ?_)
      · refine pb_ic C dX3_isLine_27 ?_
        exact pb_zret C dX3_isLine_28 (by decide +kernel) (⟨(by first | (rw [bI_t (decide_eq_true (by omega))]) | (rw [bI_f (decide_eq_false (by omega))])), rfl⟩)
      · exact absurd c20_ (by decide)
    · refine pb_ic C dX3_isLine_15 ?_
      refine pb_goto C dX3_isLine_16 (tgt := 20) (by decide) ?_
      refine pb_icmp_eq C dX3_isLine_20 (x := 0) (y := 1) (tgt := 27) (by decide) (by omega) (by omega) (fun c20_ => ?_) (fun c20_ => ?_)
      · exact absurd c20_ (by decide)
      · refine pb_ic C dX3_isLine_23 ?_
        refine pb_goto C dX3_isLine_24 (tgt := 28) (by decide) ?_
        exact pb_zret C dX3_isLine_28 (by decide +kernel) (⟨(by first | (rw [bI_t (decide_eq_true (by omega))]) | (rw [bI_f (decide_eq_false (by omega))])), rfl⟩)
  · refine pb_ic C dX3_isLine_5 ?_
    refine pb_goto C dX3_isLine_6 (tgt := 10) (by decide) ?_
    refine pb_iload_n C dX3_isLine_10 rfl (lv_at hl 1 rfl) ?_
    refine pb_iload_n C dX3_isLine_11 rfl (lv_at hl 3 rfl) ?_
    refine pb_icmp_ne C dX3_isLine_12 (x := y) (y := b) (tgt := 19) (by decide) (by omega) (by omega) (fun c12_ => ?_) (fun c12_ => ?_)
    · refine pb_ic C dX3_isLine_19 ?_
      refine pb_icmp_eq C dX3_isLine_20 (x := 1) (y := 0) (tgt := 27) (by decide) (by omega) (by omega) (fun c20_ => ?_) (fun c20_ => ?_)
      · exact absurd c20_ (by decide)
      · refine pb_ic C dX3_isLine_23 ?_
        refine pb_goto C dX3_isLine_24 (tgt := 28) (by decide) ?_
        exact pb_zret C dX3_isLine_28 (by decide +kernel) (⟨(by first | (rw [bI_t (decide_eq_true (by omega))]) | (rw [bI_f (decide_eq_false (by omega))])), rfl⟩)
    · refine pb_ic C dX3_isLine_15 ?_
      refine pb_goto C dX3_isLine_16 (tgt := 20) (by decide) ?_
      refine pb_icmp_eq C dX3_isLine_20 (x := 1) (y := 1) (tgt := 27) (by decide) (by omega) (by omega) (fun c20_ => ?_) (fun c20_ => ?_)
      · refine pb_ic C dX3_isLine_27 ?_
        exact pb_zret C dX3_isLine_28 (by decide +kernel) (⟨(by first | (rw [bI_t (decide_eq_true (by omega))]) | (rw [bI_f (decide_eq_false (by omega))])), rfl⟩)
      · exact absurd c20_ (by decide)

set_option maxHeartbeats 1000000 in
theorem met_X3_range {w : pb_W} (l : Launch) {H : Heap} (a b : Nat) (h : a ≤ b) (hb : b ≤ 24) : pb_M w l yX3_range cX3_range 2 (some .int) 0 (0) (0) [.int (iZ (((a : Nat) : Int))), .int (iZ (((b : Nat) : Int)))] H (pb_qx (.int (iZ ((rngm a b : Nat) : Int))) H) := by
  refine pb_of (by decide +kernel) (Nat.le_of_ble_eq_true rfl) ?_
  intro p_ e_ s_ m_ ar_ bl_ me_ co_ ls C hh hG hl
  have hl : lv_has ls 2 [(0, .int (iZ (((a : Nat) : Int)))), (1, .int (iZ (((b : Nat) : Int))))] := hl
  refine pb_ic C dX3_range_0 ?_
  refine pb_iload_n C dX3_range_1 rfl (lv_at hl 1 rfl) ?_
  refine pb_ishl C dX3_range_2 (x := 1) (y := b) (by omega) ?_
  refine pb_ic C dX3_range_3 ?_
  refine pb_iload_n C dX3_range_4 rfl (lv_at hl 0 rfl) ?_
  refine pb_ishl C dX3_range_5 (x := 1) (y := a) (by omega) ?_
  refine pb_isub C dX3_range_6 ?_
  refine pb_eq (g2 := F0 m_ 7 ls [.int (iZ ((((rngm a b) : Nat) : Int)))]) (congrArg (fun z9 => F0 m_ 7 ls [.int (iZ z9)]) (show ((((1 <<< b) : Nat) : Int) - (((1 <<< a) : Nat) : Int)) = (((rngm a b) : Nat) : Int) from by have := rngm_le h; unfold rngm; omega)) ?_
  exact pb_iret C dX3_range_7 (⟨rfl, rfl⟩)

set_option maxHeartbeats 1000000 in
theorem met_X3_thrown {w : pb_W} (l : Launch) {H : Heap} (o : Nat) (S : mS) (hM : MW w H o S)  : pb_M w l yX3_thrown cX3_thrown 1 (some .int) 0 (0) (0) [.ref (o)] H (pb_qx (.int (iZ (S.1 0))) H) := by
  refine pb_of (by decide +kernel) (Nat.le_of_ble_eq_true rfl) ?_
  intro p_ e_ s_ m_ ar_ bl_ me_ co_ ls C hh hG hl
  have hl : lv_has ls 1 [(0, .ref (o))] := hl
  have hM0 := hM; obtain ⟨hz, hO, hA1, hA2, hA3, hA4, hA5, hA6, hA7, hA8, hA9, hA10, hA11, hA12⟩ := hM0
  refine pb_aload_n C dX3_thrown_0 rfl (lv_at hl 0 rfl) ?_
  refine pb_get C in_X3 hO.r (ci := 2) rfl 0 (by decide) q1737 (fun _ h9 => h9) (v := .int (iZ ((S.1 0)))) rfl dX3_thrown_1 ?_
  exact pb_iret C dX3_thrown_4 (⟨rfl, rfl⟩)

set_option maxHeartbeats 1000000 in
theorem met_X3_fail {w : pb_W} (l : Launch) {H0 : Heap} (o : Nat) (S : mS) (hM : MW w H0 o S) (k : Int) : pb_M w l yX3_fail cX3_fail 2 (some .int) 0 (0) (0) [.ref (o), .int (iZ (k))] H0 (pb_qi (fun z H1 => z = 0 ∧ MW w H1 o (mI S 0 k) ∧ mF o H0 H1)) := by
  refine pb_of (by decide +kernel) (Nat.le_of_ble_eq_true rfl) ?_
  intro p_ e_ s_ m_ ar_ bl_ me_ co_ ls C hh hG hl
  have hl : lv_has ls 2 [(0, .ref (o)), (1, .int (iZ (k)))] := hl
  have hM0 := hM; obtain ⟨hz, hO, hA1, hA2, hA3, hA4, hA5, hA6, hA7, hA8, hA9, hA10, hA11, hA12⟩ := hM0
  have hF : mF o H0 H0 := mF.rf
  refine pb_aload_n C dX3_fail_0 rfl (lv_at hl 0 rfl) ?_
  refine pb_iload_n C dX3_fail_1 rfl (lv_at hl 1 rfl) ?_
  refine pb_put C in_X3 tyX3 tyX3_ok nmX3 hO (ci := 2) rfl 0 (by decide) q1737 (fun _ h9 => h9) rfl (v := .int (iZ (k))) rfl rfl (Nat.le_of_ble_eq_true rfl) (by omega) dX3_fail_2 fun H1_ hu_ hO => ?_
  have hO : pb_O w H1_ (o) 2 [.int (iZ (k)), .int (iZ ((S.1 1))), .ref (o + 1), .ref (o + 2), .ref (o + 3), .ref (o + 4), .ref (o + 5), .ref (o + 6), .ref (o + 7), .ref (o + 8), .ref (o + 9), .ref (o + 10), .ref (o + 11), .ref (o + 12), .int (iZ ((S.1 2))), .int (iZ ((S.1 3)))] := hO
  have hG := hG.kept (hu_.z (by omega))
  have hA1 := hA1.kept (hu_.2 _ (by omega))
  have hA2 := hA2.kept (hu_.2 _ (by omega))
  have hA3 := hA3.kept (hu_.2 _ (by omega))
  have hA4 := hA4.kept (hu_.2 _ (by omega))
  have hA5 := hA5.kept (hu_.2 _ (by omega))
  have hA6 := hA6.kept (hu_.2 _ (by omega))
  have hA7 := hA7.kept (hu_.2 _ (by omega))
  have hA8 := hA8.kept (hu_.2 _ (by omega))
  have hA9 := hA9.kept (hu_.2 _ (by omega))
  have hA10 := hA10.kept (hu_.2 _ (by omega))
  have hA11 := hA11.kept (hu_.2 _ (by omega))
  have hA12 := hA12.kept (hu_.2 _ (by omega))
  have hF := hF.up hu_ (by omega)
  refine pb_ic C dX3_fail_5 ?_
  exact pb_iret C dX3_fail_6 (⟨0, rfl, rfl, ⟨hz, hO, hA1, hA2, hA3, hA4, hA5, hA6, hA7, hA8, hA9, hA10, hA11, hA12⟩, hF⟩)

set_option maxHeartbeats 1000000 in
theorem met_X3_count {w : pb_W} (l : Launch) {H : Heap} (o : Nat) (S : mS) (hM : MW w H o S) (s : Nat) (hs : s < 8) (hb : mok S) : pb_M w l yX3_count cX3_count 4 (some .int) 4 (0) (0) [.ref (o), .int (iZ (((s : Nat) : Int)))] H (pb_qx (.int (iZ ((cnt (mg S s) : Nat) : Int))) H) := by
  refine pb_of (by decide +kernel) (Nat.le_of_ble_eq_true rfl) ?_
  intro p_ e_ s_ m_ ar_ bl_ me_ co_ ls C hh hG hl
  have hl : lv_has ls 4 [(0, .ref (o)), (1, .int (iZ (((s : Nat) : Int))))] := hl
  have hM0 := hM; obtain ⟨hz, hO, hA1, hA2, hA3, hA4, hA5, hA6, hA7, hA8, hA9, hA10, hA11, hA12⟩ := hM0
  have L4 : ∀ (n_ : Nat) (k n : Nat), 24 - k = n_ → (k ≤ 24) → (n = sm (fun y => pop 32 (mg S s y)) k) → ∀ (ls : Array Slot), lv_has ls 4 [(0, .ref (o)), (1, .int (iZ (((s : Nat) : Int)))), (2, .int (iZ (((n : Nat) : Int)))), (3, .int (iZ (((k : Nat) : Int))))] → pb_V w.2.2.2 p_ l e_ (pb_rm 4 (0) (0)) s_ m_ ar_ bl_ me_ co_ H (0) (0) (pb_E w bl_ ar_ s_ (0) (0) (pb_qx (.int (iZ ((cnt (mg S s) : Nat) : Int))) H)) (F0 m_ 4 ls []) := by
    intro n_
    induction n_ using Nat.strongRecOn with
    | _ n_ ih4 =>
    intro k n hm_ h1 h2 ls hl
    refine pb_iload_n C dX3_count_4 rfl (lv_at hl 3 rfl) ?_
    refine pb_bip C dX3_count_5 (by decide) ?_
    refine pb_icmp_ge C dX3_count_7 (x := ((k : Nat) : Int)) (y := 24) (tgt := 28) (by decide) (by omega) (by omega) (fun c7_ => ?_) (fun c7_ => ?_)
    · refine pb_iload_n C dX3_count_28 rfl (lv_at hl 2 rfl) ?_
      exact pb_iret C dX3_count_29 (⟨by rw [h2, show k = 24 from by omega]; rfl, rfl⟩)
    · refine pb_iload_n C dX3_count_10 rfl (lv_at hl 2 rfl) ?_
      refine pb_aload_n C dX3_count_11 rfl (lv_at hl 0 rfl) ?_
      refine pb_iload_n C dX3_count_12 rfl (lv_at hl 1 rfl) ?_
      refine pb_iload_n C dX3_count_13 rfl (lv_at hl 3 rfl) ?_
      refine pb_go_x (bc' := 0) (bs' := 0) (pb_runV (rest := [.int (iZ (((n : Nat) : Int)))]) C hG (met_X3_row l o S hM s hs (((k : Nat) : Int)) (by omega)) hO.r (ci := 2) rfl (lw_V q1807 q1809 qs28 q60 q1810) ⟨rfl, hdX3_row⟩ rfl hl.1 rfl (Nat.le_of_ble_eq_true rfl) ⟨(Nat.le_of_ble_eq_true rfl), (Nat.le_of_ble_eq_true rfl)⟩ dX3_count_14) (by omega) (by omega) ?_
      refine pb_eq (g2 := F0 m_ 17 ls [.int (iZ ((((mg S s k) : Nat) : Int))), .int (iZ (((n : Nat) : Int)))]) (congrArg (fun z9 => F0 m_ 17 ls [.int (iZ z9), .int (iZ (((n : Nat) : Int)))]) (show (((gr (mg S s) (((k : Nat) : Int))) : Nat) : Int) = (((mg S s k) : Nat) : Int) from by rw [gr_nat])) ?_
      refine pb_go_x (bc' := 0) (bs' := 0) (pb_runS (rest := [.int (iZ (((n : Nat) : Int)))]) C hG (met_X3_bits l ((mg S s k)) (Nat.lt_of_lt_of_le ((mg_ok hb hs).1 k) (by decide))) (lw_S q1811 q1812 q60 q1813) hdX3_bits rfl hl.1 rfl (Nat.le_of_ble_eq_true rfl) ⟨(Nat.le_of_ble_eq_true rfl), (Nat.le_of_ble_eq_true rfl)⟩ dX3_count_17) (by omega) (by omega) ?_
      refine pb_iadd C dX3_count_20 ?_
      refine pb_istore_n C dX3_count_21 rfl hl (by decide) rfl fun ls hl => ?_
      have hl : lv_has ls 4 [(2, .int (iZ ((((n + (pop 32 ((mg S s k)))) : Nat) : Int)))), (0, .ref (o)), (1, .int (iZ (((s : Nat) : Int)))), (3, .int (iZ (((k : Nat) : Int))))] := hl
      refine pb_iinc C dX3_count_22 hl (j := 3) (x := (((k : Nat) : Int))) rfl (by decide) rfl fun ls hl => ?_
      have hl : lv_has ls 4 [(3, .int (iZ ((((k + 1) : Nat) : Int)))), (2, .int (iZ ((((n + (pop 32 ((mg S s k)))) : Nat) : Int)))), (0, .ref (o)), (1, .int (iZ (((s : Nat) : Int))))] := hl
      refine pb_goto C dX3_count_25 (tgt := 4) (by decide) ?_
      exact pb_V.mono (by omega) (by omega) (ih4 _ (by omega) (k + 1) (n + (pop 32 ((mg S s k)))) rfl (by omega) (by rw [sm, ← h2]) ls (lv_sub hl [2, 3, 1, 0] rfl))
  refine pb_ic C dX3_count_0 ?_
  refine pb_istore_n C dX3_count_1 rfl hl (by decide) rfl fun ls hl => ?_
  have hl : lv_has ls 4 [(2, .int (iZ (0))), (0, .ref (o)), (1, .int (iZ (((s : Nat) : Int))))] := hl
  refine pb_ic C dX3_count_2 ?_
  refine pb_istore_n C dX3_count_3 rfl hl (by decide) rfl fun ls hl => ?_
  have hl : lv_has ls 4 [(3, .int (iZ (0))), (2, .int (iZ (0))), (0, .ref (o)), (1, .int (iZ (((s : Nat) : Int))))] := hl
  exact pb_V.mono (by omega) (by omega) (L4 _ 0 0 rfl (by omega) rfl ls (lv_sub hl [2, 3, 1, 0] rfl))

set_option maxHeartbeats 1000000 in
theorem met_X3_puts {w : pb_W} (l : Launch) {H0 : Heap} (o : Nat) (S : mS) (hM : MW w H0 o S) (s : Nat) (hs : s < 8) (hb : mok S) (hm : ∀ y, y < 24 → S.2.1 1 y < 16777216) : pb_M w l yX3_puts cX3_puts 3 (some .int) 5 (0) (0) [.ref (o), .int (iZ (((s : Nat) : Int)))] H0 (pb_qi (fun z H1 => z = ((cnt (mg (mB S 0 (rowsF S s 0 24 (S.2.1 1))) s) : Nat) : Int) ∧ MW w H1 o (mB S 0 (rowsF S s 0 24 (S.2.1 1))) ∧ mF o H0 H1)) := by
  refine pb_of (by decide +kernel) (Nat.le_of_ble_eq_true rfl) ?_
  intro p_ e_ s_ m_ ar_ bl_ me_ co_ ls C hh hG hl
  have hl : lv_has ls 3 [(0, .ref (o)), (1, .int (iZ (((s : Nat) : Int))))] := hl
  have hM0 := hM; obtain ⟨hz, hO, hA1, hA2, hA3, hA4, hA5, hA6, hA7, hA8, hA9, hA10, hA11, hA12⟩ := hM0
  have hF : mF o H0 H0 := mF.rf
  have L2 : ∀ (n_ : Nat) (k : Nat) (H : Heap), 24 - k = n_ → (pb_G w s_ H) → (k ≤ 24) → (MW w H o (mB S 0 (rowsF S s 0 k (S.2.1 1)))) → (mF o H0 H) → ∀ (ls : Array Slot), lv_has ls 3 [(0, .ref (o)), (1, .int (iZ (((s : Nat) : Int)))), (2, .int (iZ (((k : Nat) : Int))))] → pb_V w.2.2.2 p_ l e_ (pb_rm 5 (0) (0)) s_ m_ ar_ bl_ me_ co_ H (0) (0) (pb_E w bl_ ar_ s_ (0) (0) (pb_qi (fun z H1 => z = ((cnt (mg (mB S 0 (rowsF S s 0 24 (S.2.1 1))) s) : Nat) : Int) ∧ MW w H1 o (mB S 0 (rowsF S s 0 24 (S.2.1 1))) ∧ mF o H0 H1))) (F0 m_ 2 ls []) := by
    intro n_
    induction n_ using Nat.strongRecOn with
    | _ n_ ih2 =>
    intro k H hm_ hG h1 hM hF ls hl
    have hM0 := hM; obtain ⟨hz, hO, hA1, hA2, hA3, hA4, hA5, hA6, hA7, hA8, hA9, hA10, hA11, hA12⟩ := hM0
    have hO : pb_O w H o 2 [.int (iZ ((S.1 0))), .int (iZ ((S.1 1))), .ref (o + 1), .ref (o + 2), .ref (o + 3), .ref (o + 4), .ref (o + 5), .ref (o + 6), .ref (o + 7), .ref (o + 8), .ref (o + 9), .ref (o + 10), .ref (o + 11), .ref (o + 12), .int (iZ ((S.1 2))), .int (iZ ((S.1 3)))] := hO
    have hA1 : pb_A w H (o + 1) 0 192 (pb_nf (rowsF S s 0 k (S.2.1 1))) := hA1
    have hA2 : pb_A w H (o + 2) 0 24 (pb_nf (S.2.1 1)) := hA2
    have hA3 : pb_A w H (o + 3) 0 26 (pb_nf (S.2.1 2)) := hA3
    have hA4 : pb_A w H (o + 4) 0 26 (pb_nf (S.2.1 3)) := hA4
    have hA5 : pb_A w H (o + 5) 0 40 (pb_zf (S.2.2 0)) := hA5
    have hA6 : pb_A w H (o + 6) 0 40 (pb_zf (S.2.2 1)) := hA6
    have hA7 : pb_A w H (o + 7) 0 576 (pb_zf (S.2.2 2)) := hA7
    have hA8 : pb_A w H (o + 8) 0 1300 (pb_zf (S.2.2 3)) := hA8
    have hA9 : pb_A w H (o + 9) 0 1300 (pb_zf (S.2.2 4)) := hA9
    have hA10 : pb_A w H (o + 10) 0 400 (pb_zf (S.2.2 5)) := hA10
    have hA11 : pb_A w H (o + 11) 0 400 (pb_zf (S.2.2 6)) := hA11
    have hA12 : pb_A w H (o + 12) 0 625 (pb_nf (S.2.1 4)) := hA12
    refine pb_iload_n C dX3_puts_2 rfl (lv_at hl 2 rfl) ?_
    refine pb_bip C dX3_puts_3 (by decide) ?_
    refine pb_icmp_ge C dX3_puts_5 (x := ((k : Nat) : Int)) (y := 24) (tgt := 31) (by decide) (by omega) (by omega) (fun c5_ => ?_) (fun c5_ => ?_)
    · obtain rfl : k = 24 := by omega
      refine pb_aload_n C dX3_puts_31 rfl (lv_at hl 0 rfl) ?_
      refine pb_iload_n C dX3_puts_32 rfl (lv_at hl 1 rfl) ?_
      refine pb_go_x (bc' := 0) (bs' := 0) (pb_runV (rest := []) C hG (met_X3_count l o ((mB S 0 (rowsF S s 0 24 (S.2.1 1)))) hM s hs (mok_rowsF hb rfl (fun y _ hy => hm y hy))) hO.r (ci := 2) rfl (lw_V q1803 q1805 qs27 q60 q1806) ⟨rfl, hdX3_count⟩ rfl hl.1 rfl (Nat.le_of_ble_eq_true rfl) ⟨(Nat.le_of_ble_eq_true rfl), (Nat.le_of_ble_eq_true rfl)⟩ dX3_puts_33) (by omega) (by omega) ?_
      exact pb_iret C dX3_puts_36 (⟨_, rfl, rfl, hM, hF⟩)
    · refine pb_aload_n C dX3_puts_8 rfl (lv_at hl 0 rfl) ?_
      refine pb_get C in_X3 hO.r (ci := 2) rfl 2 (by decide) q1739 (fun _ h9 => h9) (v := .ref (o + 1)) rfl dX3_puts_9 ?_
      refine pb_bip C dX3_puts_12 (by decide) ?_
      refine pb_iload_n C dX3_puts_14 rfl (lv_at hl 1 rfl) ?_
      refine pb_imul C dX3_puts_15 ?_
      refine pb_iload_n C dX3_puts_16 rfl (lv_at hl 2 rfl) ?_
      refine pb_iadd C dX3_puts_17 ?_
      refine pb_aload_n C dX3_puts_18 rfl (lv_at hl 0 rfl) ?_
      refine pb_get C in_X3 hO.r (ci := 2) rfl 3 (by decide) q1740 (fun _ h9 => h9) (v := .ref (o + 2)) rfl dX3_puts_19 ?_
      refine pb_iload_n C dX3_puts_22 rfl (lv_at hl 2 rfl) ?_
      refine pb_iald C hA2.b (i := ((k : Nat) : Int)) (v := .int (iZ ((((S.2.1 1 k) : Nat) : Int)))) (by omega) rfl dX3_puts_23 ?_
      refine pb_iast C hA1 (i := ((((24 * s) + k) : Nat) : Int)) (by omega) (by omega) dX3_puts_24 fun H1_ hu_ hA1 => ?_
      rw [pb_upN, Int.toNat_natCast, rowsF_step S s 0 k _ (Nat.zero_le _) rfl] at hA1
      have hG := hG.kept (hu_.z (by omega))
      have hO := hO.kept (hu_.2 _ (by omega))
      have hA2 := hA2.kept (hu_.2 _ (by omega))
      have hA3 := hA3.kept (hu_.2 _ (by omega))
      have hA4 := hA4.kept (hu_.2 _ (by omega))
      have hA5 := hA5.kept (hu_.2 _ (by omega))
      have hA6 := hA6.kept (hu_.2 _ (by omega))
      have hA7 := hA7.kept (hu_.2 _ (by omega))
      have hA8 := hA8.kept (hu_.2 _ (by omega))
      have hA9 := hA9.kept (hu_.2 _ (by omega))
      have hA10 := hA10.kept (hu_.2 _ (by omega))
      have hA11 := hA11.kept (hu_.2 _ (by omega))
      have hA12 := hA12.kept (hu_.2 _ (by omega))
      have hF := hF.up hu_ (by omega)
      refine pb_iinc C dX3_puts_25 hl (j := 2) (x := (((k : Nat) : Int))) rfl (by decide) rfl fun ls hl => ?_
      have hl : lv_has ls 3 [(2, .int (iZ ((((k + 1) : Nat) : Int)))), (0, .ref (o)), (1, .int (iZ (((s : Nat) : Int))))] := hl
      refine pb_goto C dX3_puts_28 (tgt := 2) (by decide) ?_
      exact pb_V.mono (by omega) (by omega) (ih2 _ (by omega) (k + 1) H1_ rfl hG (by omega) ⟨hz, hO, hA1, hA2, hA3, hA4, hA5, hA6, hA7, hA8, hA9, hA10, hA11, hA12⟩ hF ls (lv_sub hl [1, 2, 0] rfl))
  refine pb_ic C dX3_puts_0 ?_
  refine pb_istore_n C dX3_puts_1 rfl hl (by decide) rfl fun ls hl => ?_
  have hl : lv_has ls 3 [(2, .int (iZ (0))), (0, .ref (o)), (1, .int (iZ (((s : Nat) : Int))))] := hl
  exact pb_V.mono (by omega) (by omega) (L2 _ 0 H0 rfl hG (by omega) (by rw [rowsF_0, mB_self]; exact hM) hF ls (lv_sub hl [1, 2, 0] rfl))

