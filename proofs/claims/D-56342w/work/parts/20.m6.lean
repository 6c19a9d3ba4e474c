set_option maxRecDepth 100000
set_option maxHeartbeats 1000000 in
theorem met_X3_looks {w : pb_W} (l : Launch) {H0 : Heap} (o : Nat) (S : mS) (hM : MW w H0 o S) (s : Nat) (hs : s < 8) : pb_M w l yX3_looks cX3_looks 2 (some .boolean) 2 (0) (0) [.ref (o), .int (iZ (((s : Nat) : Int)))] H0 (pb_qi (fun z H1 => z = 1 ∧ MW w H1 o (mI S 0 0) ∧ mF o H0 H1)) := by
  refine pb_of (by decide +kernel) (Nat.le_of_ble_eq_true rfl) ?_
  intro p_ e_ s_ m_ ar_ bl_ me_ co_ ls C hh hG hl
  have hl : lv_has ls 2 [(0, .ref (o)), (1, .int (iZ (((s : Nat) : Int))))] := hl
  have hM0 := hM; obtain ⟨hz, hO, hA1, hA2, hA3, hA4, hA5, hA6, hA7, hA8, hA9, hA10, hA11, hA12⟩ := hM0
  have hF : mF o H0 H0 := mF.rf
  refine pb_aload_n C dX3_looks_0 rfl (lv_at hl 0 rfl) ?_
  refine pb_iload_n C dX3_looks_1 rfl (lv_at hl 1 rfl) ?_
  refine pb_go_x (bc' := 0) (bs' := 0) (pb_runS (rest := [.ref (o)]) C hG (met_X3_isSheet l (((s : Nat) : Int)) (by omega)) (lw_S q1794 q1795 q60 q1796) hdX3_isSheet rfl hl.1 rfl (Nat.le_of_ble_eq_true rfl) ⟨(Nat.le_of_ble_eq_true rfl), (Nat.le_of_ble_eq_true rfl)⟩ dX3_looks_2) (by omega) (by omega) ?_
  refine pb_ifB_eq C dX3_looks_5 (tgt := 12) (by decide) (fun c5_ => ?_) (fun c5_ => ?_)
  · have c5_ := of_decide_eq_false c5_
    omega
  · have c5_ := of_decide_eq_true c5_
    refine pb_ic C dX3_looks_8 ?_
    refine pb_goto C dX3_looks_9 (tgt := 13) (by decide) ?_
    refine pb_put C in_X3 tyX3 tyX3_ok nmX3 hO (ci := 2) rfl 0 (by decide) q1737 (fun _ h9 => h9) rfl (v := .int (iZ (0))) rfl rfl (Nat.le_of_ble_eq_true rfl) (by omega) dX3_looks_13 fun H1_ hu_ hO => ?_
    have hO : pb_O w H1_ (o) 2 [.int (iZ (0)), .int (iZ ((S.1 1))), .ref (o + 1), .ref (o + 2), .ref (o + 3), .ref (o + 4), .ref (o + 5), .ref (o + 6), .ref (o + 7), .ref (o + 8), .ref (o + 9), .ref (o + 10), .ref (o + 11), .ref (o + 12), .int (iZ ((S.1 2))), .int (iZ ((S.1 3)))] := hO
    have hG := hG.kept (hu_.z (by omega))
    have hA1 := hA1.kept (hu_.2 _ (by omega))
    have hA2 := hA2.kept (hu_.2 _ (by omega))
    have hA3 := hA3.kept (hu_.2 _ (by omega))
    have hA4 := hA4.kept (hu_.2 _ (by omega))
    have hA5 := hA5.kept (hu_.2 _ (by omega))
    have hA6 := hA6.kept (hu_.2 _ (by omega))
    have hA7 := hA7.kept (hu_.2 _ (by omega))
    have hA8 := hA8.kept (hu_.2 _ (by omega))
    have hA9 := hA9.kept (hu_.2 _ (by omega))
    have hA10 := hA10.kept (hu_.2 _ (by omega))
    have hA11 := hA11.kept (hu_.2 _ (by omega))
    have hA12 := hA12.kept (hu_.2 _ (by omega))
    have hF := hF.up hu_ (by omega)
    refine pb_aload_n C dX3_looks_16 rfl (lv_at hl 0 rfl) ?_
    refine pb_get C in_X3 hO.r (ci := 2) rfl 0 (by decide) q1737 (fun _ h9 => h9) (v := .int (iZ (0))) rfl dX3_looks_17 ?_
    refine pb_if_ne C dX3_looks_20 (x := 0) (tgt := 27) (by decide) (by omega) (fun c20_ => ?_) (fun c20_ => ?_)
    · exact absurd c20_ (by decide)
    · refine pb_ic C dX3_looks_23 ?_
      refine pb_goto C dX3_looks_24 (tgt := 28) (by decide) ?_
      exact pb_zret C dX3_looks_28 (by decide +kernel) (⟨_, rfl, rfl, ⟨hz, hO, hA1, hA2, hA3, hA4, hA5, hA6, hA7, hA8, hA9, hA10, hA11, hA12⟩, hF⟩)

set_option maxHeartbeats 1000000 in
theorem met_X3_looks_1 {w : pb_W} (l : Launch) {H0 : Heap} (o : Nat) (S : mS) (hM : MW w H0 o S) (s : Int) (hsr : -2147483648 ≤ s ∧ s ≤ 2147483647) (hs : ¬ (0 ≤ s ∧ s ≤ 7)) : pb_M w l yX3_looks cX3_looks 2 (some .boolean) 2 (0) (0) [.ref (o), .int (iZ (s))] H0 (pb_qi (fun z H1 => z = 0 ∧ MW w H1 o (mI S 0 1) ∧ mF o H0 H1)) := by
  refine pb_of (by decide +kernel) (Nat.le_of_ble_eq_true rfl) ?_
  intro p_ e_ s_ m_ ar_ bl_ me_ co_ ls C hh hG hl
  have hl : lv_has ls 2 [(0, .ref (o)), (1, .int (iZ (s)))] := hl
  have hM0 := hM; obtain ⟨hz, hO, hA1, hA2, hA3, hA4, hA5, hA6, hA7, hA8, hA9, hA10, hA11, hA12⟩ := hM0
  have hF : mF o H0 H0 := mF.rf
  refine pb_aload_n C dX3_looks_0 rfl (lv_at hl 0 rfl) ?_
  refine pb_iload_n C dX3_looks_1 rfl (lv_at hl 1 rfl) ?_
  refine pb_go_x (bc' := 0) (bs' := 0) (pb_runS (rest := [.ref (o)]) C hG (met_X3_isSheet l s (by omega)) (lw_S q1794 q1795 q60 q1796) hdX3_isSheet rfl hl.1 rfl (Nat.le_of_ble_eq_true rfl) ⟨(Nat.le_of_ble_eq_true rfl), (Nat.le_of_ble_eq_true rfl)⟩ dX3_looks_2) (by omega) (by omega) ?_
  refine pb_ifB_eq C dX3_looks_5 (tgt := 12) (by decide) (fun c5_ => ?_) (fun c5_ => ?_)
  · have c5_ := of_decide_eq_false c5_
    refine pb_ic C dX3_looks_12 ?_
    refine pb_put C in_X3 tyX3 tyX3_ok nmX3 hO (ci := 2) rfl 0 (by decide) q1737 (fun _ h9 => h9) rfl (v := .int (iZ (1))) rfl rfl (Nat.le_of_ble_eq_true rfl) (by omega) dX3_looks_13 fun H1_ hu_ hO => ?_
    have hO : pb_O w H1_ (o) 2 [.int (iZ (1)), .int (iZ ((S.1 1))), .ref (o + 1), .ref (o + 2), .ref (o + 3), .ref (o + 4), .ref (o + 5), .ref (o + 6), .ref (o + 7), .ref (o + 8), .ref (o + 9), .ref (o + 10), .ref (o + 11), .ref (o + 12), .int (iZ ((S.1 2))), .int (iZ ((S.1 3)))] := hO
    have hG := hG.kept (hu_.z (by omega))
    have hA1 := hA1.kept (hu_.2 _ (by omega))
    have hA2 := hA2.kept (hu_.2 _ (by omega))
    have hA3 := hA3.kept (hu_.2 _ (by omega))
    have hA4 := hA4.kept (hu_.2 _ (by omega))
    have hA5 := hA5.kept (hu_.2 _ (by omega))
    have hA6 := hA6.kept (hu_.2 _ (by omega))
    have hA7 := hA7.kept (hu_.2 _ (by omega))
    have hA8 := hA8.kept (hu_.2 _ (by omega))
    have hA9 := hA9.kept (hu_.2 _ (by omega))
    have hA10 := hA10.kept (hu_.2 _ (by omega))
    have hA11 := hA11.kept (hu_.2 _ (by omega))
    have hA12 := hA12.kept (hu_.2 _ (by omega))
    have hF := hF.up hu_ (by omega)
    refine pb_aload_n C dX3_looks_16 rfl (lv_at hl 0 rfl) ?_
    refine pb_get C in_X3 hO.r (ci := 2) rfl 0 (by decide) q1737 (fun _ h9 => h9) (v := .int (iZ (1))) rfl dX3_looks_17 ?_
    refine pb_if_ne C dX3_looks_20 (x := 1) (tgt := 27) (by decide) (by omega) (fun c20_ => ?_) (fun c20_ => ?_)
    · refine pb_ic C dX3_looks_27 ?_
      exact pb_zret C dX3_looks_28 (by decide +kernel) (⟨_, rfl, rfl, ⟨hz, hO, hA1, hA2, hA3, hA4, hA5, hA6, hA7, hA8, hA9, hA10, hA11, hA12⟩, hF⟩)
    · exact absurd c20_ (by decide)
  · have c5_ := of_decide_eq_true c5_
    omega

set_option maxHeartbeats 1000000 in
theorem met_X3_pointCount {w : pb_W} (l : Launch) {H0 : Heap} (o : Nat) (S : mS) (hM : MW w H0 o S)  : pb_M w l yX3_pointCount cX3_pointCount 1 (some .int) 0 (0) (0) [.ref (o)] H0 (pb_qi (fun z H1 => z = (S.1 1) ∧ MW w H1 o (mI S 0 0) ∧ mF o H0 H1)) := by
  refine pb_of (by decide +kernel) (Nat.le_of_ble_eq_true rfl) ?_
  intro p_ e_ s_ m_ ar_ bl_ me_ co_ ls C hh hG hl
  have hl : lv_has ls 1 [(0, .ref (o))] := hl
  have hM0 := hM; obtain ⟨hz, hO, hA1, hA2, hA3, hA4, hA5, hA6, hA7, hA8, hA9, hA10, hA11, hA12⟩ := hM0
  have hF : mF o H0 H0 := mF.rf
  refine pb_aload_n C dX3_pointCount_0 rfl (lv_at hl 0 rfl) ?_
  refine pb_ic C dX3_pointCount_1 ?_
  refine pb_put C in_X3 tyX3 tyX3_ok nmX3 hO (ci := 2) rfl 0 (by decide) q1737 (fun _ h9 => h9) rfl (v := .int (iZ (0))) rfl rfl (Nat.le_of_ble_eq_true rfl) (by omega) dX3_pointCount_2 fun H1_ hu_ hO => ?_
  have hO : pb_O w H1_ (o) 2 [.int (iZ (0)), .int (iZ ((S.1 1))), .ref (o + 1), .ref (o + 2), .ref (o + 3), .ref (o + 4), .ref (o + 5), .ref (o + 6), .ref (o + 7), .ref (o + 8), .ref (o + 9), .ref (o + 10), .ref (o + 11), .ref (o + 12), .int (iZ ((S.1 2))), .int (iZ ((S.1 3)))] := hO
  have hG := hG.kept (hu_.z (by omega))
  have hA1 := hA1.kept (hu_.2 _ (by omega))
  have hA2 := hA2.kept (hu_.2 _ (by omega))
  have hA3 := hA3.kept (hu_.2 _ (by omega))
  have hA4 := hA4.kept (hu_.2 _ (by omega))
  have hA5 := hA5.kept (hu_.2 _ (by omega))
  have hA6 := hA6.kept (hu_.2 _ (by omega))
  have hA7 := hA7.kept (hu_.2 _ (by omega))
  have hA8 := hA8.kept (hu_.2 _ (by omega))
  have hA9 := hA9.kept (hu_.2 _ (by omega))
  have hA10 := hA10.kept (hu_.2 _ (by omega))
  have hA11 := hA11.kept (hu_.2 _ (by omega))
  have hA12 := hA12.kept (hu_.2 _ (by omega))
  have hF := hF.up hu_ (by omega)
  refine pb_aload_n C dX3_pointCount_5 rfl (lv_at hl 0 rfl) ?_
  refine pb_get C in_X3 hO.r (ci := 2) rfl 1 (by decide) q1738 (fun _ h9 => h9) (v := .int (iZ ((S.1 1)))) rfl dX3_pointCount_6 ?_
  exact pb_iret C dX3_pointCount_9 (⟨_, rfl, rfl, ⟨hz, hO, hA1, hA2, hA3, hA4, hA5, hA6, hA7, hA8, hA9, hA10, hA11, hA12⟩, hF⟩)

set_option maxHeartbeats 1000000 in
theorem met_X3_contains {w : pb_W} (l : Launch) {H0 : Heap} (o : Nat) (S : mS) (hM : MW w H0 o S) (s : Nat) (hs : s < 8) (hb : mok S) (x y : Int) (hx : -2147483648 ≤ x ∧ x ≤ 2147483647) (hy : -2147483648 ≤ y ∧ y ≤ 2147483647) (hc : (0 ≤ x ∧ x ≤ 23) ∧ 0 ≤ y ∧ y ≤ 23) : pb_M w l yX3_contains cX3_contains 4 (some .boolean) 4 (0) (0) [.ref (o), .int (iZ (((s : Nat) : Int))), .int (iZ (x)), .int (iZ (y))] H0 (pb_qi (fun z H1 => z = bI (gc (mg S s) x y) ∧ MW w H1 o (mI S 0 0) ∧ mF o H0 H1)) := by
  refine pb_of (by decide +kernel) (Nat.le_of_ble_eq_true rfl) ?_
  intro p_ e_ s_ m_ ar_ bl_ me_ co_ ls C hh hG hl
  have hl : lv_has ls 4 [(0, .ref (o)), (1, .int (iZ (((s : Nat) : Int)))), (2, .int (iZ (x))), (3, .int (iZ (y)))] := hl
  have hM0 := hM; obtain ⟨hz, hO, hA1, hA2, hA3, hA4, hA5, hA6, hA7, hA8, hA9, hA10, hA11, hA12⟩ := hM0
  have hF : mF o H0 H0 := mF.rf
  refine pb_aload_n C dX3_contains_0 rfl (lv_at hl 0 rfl) ?_
  refine pb_iload_n C dX3_contains_1 rfl (lv_at hl 1 rfl) ?_
  refine pb_go_x (bc' := 0) (bs' := 0) (pb_runS (rest := [.ref (o)]) C hG (met_X3_isSheet l (((s : Nat) : Int)) (by omega)) (lw_S q1794 q1795 q60 q1796) hdX3_isSheet rfl hl.1 rfl (Nat.le_of_ble_eq_true rfl) ⟨(Nat.le_of_ble_eq_true rfl), (Nat.le_of_ble_eq_true rfl)⟩ dX3_contains_2) (by omega) (by omega) ?_
  refine pb_ifB_ne C dX3_contains_5 (tgt := 12) (by decide) (fun c5_ => ?_) (fun c5_ => ?_)
  · have c5_ := of_decide_eq_true c5_
    refine pb_iload_n C dX3_contains_12 rfl (lv_at hl 2 rfl) ?_
    refine pb_iload_n C dX3_contains_13 rfl (lv_at hl 3 rfl) ?_
    refine pb_go_x (bc' := 0) (bs' := 0) (pb_runS (rest := [.ref (o)]) C hG (met_X3_isCell l x y (by omega) (by omega)) (lw_S q1879 q1880 q60 q1881) hdX3_isCell rfl hl.1 rfl (Nat.le_of_ble_eq_true rfl) ⟨(Nat.le_of_ble_eq_true rfl), (Nat.le_of_ble_eq_true rfl)⟩ dX3_contains_14) (by omega) (by omega) ?_
    refine pb_ifB_ne C dX3_contains_17 (tgt := 24) (by decide) (fun c17_ => ?_) (fun c17_ => ?_)
    · have c17_ := of_decide_eq_true c17_
      refine pb_ic C dX3_contains_24 ?_
      refine pb_put C in_X3 tyX3 tyX3_ok nmX3 hO (ci := 2) rfl 0 (by decide) q1737 (fun _ h9 => h9) rfl (v := .int (iZ (0))) rfl rfl (Nat.le_of_ble_eq_true rfl) (by omega) dX3_contains_25 fun H1_ hu_ hO => ?_
      have hO : pb_O w H1_ (o) 2 [.int (iZ (0)), .int (iZ ((S.1 1))), .ref (o + 1), .ref (o + 2), .ref (o + 3), .ref (o + 4), .ref (o + 5), .ref (o + 6), .ref (o + 7), .ref (o + 8), .ref (o + 9), .ref (o + 10), .ref (o + 11), .ref (o + 12), .int (iZ ((S.1 2))), .int (iZ ((S.1 3)))] := hO
      have hG := hG.kept (hu_.z (by omega))
      have hA1 := hA1.kept (hu_.2 _ (by omega))
      have hA2 := hA2.kept (hu_.2 _ (by omega))
      have hA3 := hA3.kept (hu_.2 _ (by omega))
      have hA4 := hA4.kept (hu_.2 _ (by omega))
      have hA5 := hA5.kept (hu_.2 _ (by omega))
      have hA6 := hA6.kept (hu_.2 _ (by omega))
      have hA7 := hA7.kept (hu_.2 _ (by omega))
      have hA8 := hA8.kept (hu_.2 _ (by omega))
      have hA9 := hA9.kept (hu_.2 _ (by omega))
      have hA10 := hA10.kept (hu_.2 _ (by omega))
      have hA11 := hA11.kept (hu_.2 _ (by omega))
      have hA12 := hA12.kept (hu_.2 _ (by omega))
      have hF := hF.up hu_ (by omega)
      refine pb_aload_n C dX3_contains_28 rfl (lv_at hl 0 rfl) ?_
      refine pb_get C in_X3 hO.r (ci := 2) rfl 0 (by decide) q1737 (fun _ h9 => h9) (v := .int (iZ (0))) rfl dX3_contains_29 ?_
      refine pb_if_ne C dX3_contains_32 (x := 0) (tgt := 49) (by decide) (by omega) (fun c32_ => ?_) (fun c32_ => ?_)
      · exact absurd c32_ (by decide)
      · refine pb_aload_n C dX3_contains_35 rfl (lv_at hl 0 rfl) ?_
        refine pb_iload_n C dX3_contains_36 rfl (lv_at hl 1 rfl) ?_
        refine pb_iload_n C dX3_contains_37 rfl (lv_at hl 2 rfl) ?_
        refine pb_iload_n C dX3_contains_38 rfl (lv_at hl 3 rfl) ?_
        refine pb_go_x (bc' := 0) (bs' := 0) (pb_runV (rest := []) C hG (met_X3_has l o (mI S 0 0) ⟨hz, hO, hA1, hA2, hA3, hA4, hA5, hA6, hA7, hA8, hA9, hA10, hA11, hA12⟩ s hs hb x y hx hy) hO.r (ci := 2) rfl (lw_V q1875 q1877 qs35 q60 q1878) ⟨rfl, hdX3_has⟩ rfl hl.1 rfl (Nat.le_of_ble_eq_true rfl) ⟨(Nat.le_of_ble_eq_true rfl), (Nat.le_of_ble_eq_true rfl)⟩ dX3_contains_39) (by omega) (by omega) ?_
        refine pb_ifB_eq C dX3_contains_42 (tgt := 49) (by decide) (fun c42_ => ?_) (fun c42_ => ?_)
        · refine pb_ic C dX3_contains_49 ?_
          exact pb_zret C dX3_contains_50 (by decide +kernel) (⟨_, rfl, (congrArg bI c42_).symm, ⟨hz, hO, hA1, hA2, hA3, hA4, hA5, hA6, hA7, hA8, hA9, hA10, hA11, hA12⟩, hF⟩)
        · refine pb_ic C dX3_contains_45 ?_
          refine pb_goto C dX3_contains_46 (tgt := 50) (by decide) ?_
          exact pb_zret C dX3_contains_50 (by decide +kernel) (⟨_, rfl, (congrArg bI c42_).symm, ⟨hz, hO, hA1, hA2, hA3, hA4, hA5, hA6, hA7, hA8, hA9, hA10, hA11, hA12⟩, hF⟩)
    · have c17_ := of_decide_eq_false c17_
      omega
  · have c5_ := of_decide_eq_false c5_
    omega

set_option maxHeartbeats 1000000 in
theorem met_X3_contains_1 {w : pb_W} (l : Launch) {H0 : Heap} (o : Nat) (S : mS) (hM : MW w H0 o S) (s : Int) (hsr : -2147483648 ≤ s ∧ s ≤ 2147483647) (hs : ¬ (0 ≤ s ∧ s ≤ 7)) (x y : Int) (hx : -2147483648 ≤ x ∧ x ≤ 2147483647) (hy : -2147483648 ≤ y ∧ y ≤ 2147483647) : pb_M w l yX3_contains cX3_contains 4 (some .boolean) 4 (0) (0) [.ref (o), .int (iZ (s)), .int (iZ (x)), .int (iZ (y))] H0 (pb_qi (fun z H1 => z = 0 ∧ MW w H1 o (mI S 0 1) ∧ mF o H0 H1)) := by
  refine pb_of (by decide +kernel) (Nat.le_of_ble_eq_true rfl) ?_
  intro p_ e_ s_ m_ ar_ bl_ me_ co_ ls C hh hG hl
  have hl : lv_has ls 4 [(0, .ref (o)), (1, .int (iZ (s))), (2, .int (iZ (x))), (3, .int (iZ (y)))] := hl
  have hM0 := hM; obtain ⟨hz, hO, hA1, hA2, hA3, hA4, hA5, hA6, hA7, hA8, hA9, hA10, hA11, hA12⟩ := hM0
  have hF : mF o H0 H0 := mF.rf
  refine pb_aload_n C dX3_contains_0 rfl (lv_at hl 0 rfl) ?_
  refine pb_iload_n C dX3_contains_1 rfl (lv_at hl 1 rfl) ?_
  refine pb_go_x (bc' := 0) (bs' := 0) (pb_runS (rest := [.ref (o)]) C hG (met_X3_isSheet l s (by omega)) (lw_S q1794 q1795 q60 q1796) hdX3_isSheet rfl hl.1 rfl (Nat.le_of_ble_eq_true rfl) ⟨(Nat.le_of_ble_eq_true rfl), (Nat.le_of_ble_eq_true rfl)⟩ dX3_contains_2) (by omega) (by omega) ?_
  refine pb_ifB_ne C dX3_contains_5 (tgt := 12) (by decide) (fun c5_ => ?_) (fun c5_ => ?_)
  · have c5_ := of_decide_eq_true c5_
    omega
  · have c5_ := of_decide_eq_false c5_
    refine pb_ic C dX3_contains_8 ?_
    refine pb_goto C dX3_contains_9 (tgt := 25) (by decide) ?_
    refine pb_put C in_X3 tyX3 tyX3_ok nmX3 hO (ci := 2) rfl 0 (by decide) q1737 (fun _ h9 => h9) rfl (v := .int (iZ (1))) rfl rfl (Nat.le_of_ble_eq_true rfl) (by omega) dX3_contains_25 fun H1_ hu_ hO => ?_
    have hO : pb_O w H1_ (o) 2 [.int (iZ (1)), .int (iZ ((S.1 1))), .ref (o + 1), .ref (o + 2), .ref (o + 3), .ref (o + 4), .ref (o + 5), .ref (o + 6), .ref (o + 7), .ref (o + 8), .ref (o + 9), .ref (o + 10), .ref (o + 11), .ref (o + 12), .int (iZ ((S.1 2))), .int (iZ ((S.1 3)))] := hO
    have hG := hG.kept (hu_.z (by omega))
    have hA1 := hA1.kept (hu_.2 _ (by omega))
    have hA2 := hA2.kept (hu_.2 _ (by omega))
    have hA3 := hA3.kept (hu_.2 _ (by omega))
    have hA4 := hA4.kept (hu_.2 _ (by omega))
    have hA5 := hA5.kept (hu_.2 _ (by omega))
    have hA6 := hA6.kept (hu_.2 _ (by omega))
    have hA7 := hA7.kept (hu_.2 _ (by omega))
    have hA8 := hA8.kept (hu_.2 _ (by omega))
    have hA9 := hA9.kept (hu_.2 _ (by omega))
    have hA10 := hA10.kept (hu_.2 _ (by omega))
    have hA11 := hA11.kept (hu_.2 _ (by omega))
    have hA12 := hA12.kept (hu_.2 _ (by omega))
    have hF := hF.up hu_ (by omega)
    refine pb_aload_n C dX3_contains_28 rfl (lv_at hl 0 rfl) ?_
    refine pb_get C in_X3 hO.r (ci := 2) rfl 0 (by decide) q1737 (fun _ h9 => h9) (v := .int (iZ (1))) rfl dX3_contains_29 ?_
    refine pb_if_ne C dX3_contains_32 (x := 1) (tgt := 49) (by decide) (by omega) (fun c32_ => ?_) (fun c32_ => ?_)
    · refine pb_ic C dX3_contains_49 ?_
      exact pb_zret C dX3_contains_50 (by decide +kernel) (⟨_, rfl, rfl, ⟨hz, hO, hA1, hA2, hA3, hA4, hA5, hA6, hA7, hA8, hA9, hA10, hA11, hA12⟩, hF⟩)
    · exact absurd c32_ (by decide)

set_option maxHeartbeats 1000000 in
theorem met_X3_contains_2 {w : pb_W} (l : Launch) {H0 : Heap} (o : Nat) (S : mS) (hM : MW w H0 o S) (s : Nat) (hs : s < 8) (x y : Int) (hx : -2147483648 ≤ x ∧ x ≤ 2147483647) (hy : -2147483648 ≤ y ∧ y ≤ 2147483647) (hc : ¬ ((0 ≤ x ∧ x ≤ 23) ∧ 0 ≤ y ∧ y ≤ 23)) : pb_M w l yX3_contains cX3_contains 4 (some .boolean) 4 (0) (0) [.ref (o), .int (iZ (((s : Nat) : Int))), .int (iZ (x)), .int (iZ (y))] H0 (pb_qi (fun z H1 => z = 0 ∧ MW w H1 o (mI S 0 2) ∧ mF o H0 H1)) := by
  refine pb_of (by decide +kernel) (Nat.le_of_ble_eq_true rfl) ?_
  intro p_ e_ s_ m_ ar_ bl_ me_ co_ ls C hh hG hl
  have hl : lv_has ls 4 [(0, .ref (o)), (1, .int (iZ (((s : Nat) : Int)))), (2, .int (iZ (x))), (3, .int (iZ (y)))] := hl
  have hM0 := hM; obtain ⟨hz, hO, hA1, hA2, hA3, hA4, hA5, hA6, hA7, hA8, hA9, hA10, hA11, hA12⟩ := hM0
  have hF : mF o H0 H0 := mF.rf
  refine pb_aload_n C dX3_contains_0 rfl (lv_at hl 0 rfl) ?_
  refine pb_iload_n C dX3_contains_1 rfl (lv_at hl 1 rfl) ?_
  refine pb_go_x (bc' := 0) (bs' := 0) (pb_runS (rest := [.ref (o)]) C hG (met_X3_isSheet l (((s : Nat) : Int)) (by omega)) (lw_S q1794 q1795 q60 q1796) hdX3_isSheet rfl hl.1 rfl (Nat.le_of_ble_eq_true rfl) ⟨(Nat.le_of_ble_eq_true rfl), (Nat.le_of_ble_eq_true rfl)⟩ dX3_contains_2) (by omega) (by omega) ?_
  refine pb_ifB_ne C dX3_contains_5 (tgt := 12) (by decide) (fun c5_ => ?_) (fun c5_ => ?_)
  · have c5_ := of_decide_eq_true c5_
    refine pb_iload_n C dX3_contains_12 rfl (lv_at hl 2 rfl) ?_
    refine pb_iload_n C dX3_contains_13 rfl (lv_at hl 3 rfl) ?_
    refine pb_go_x (bc' := 0) (bs' := 0) (pb_runS (rest := [.ref (o)]) C hG (met_X3_isCell l x y (by omega) (by omega)) (lw_S q1879 q1880 q60 q1881) hdX3_isCell rfl hl.1 rfl (Nat.le_of_ble_eq_true rfl) ⟨(Nat.le_of_ble_eq_true rfl), (Nat.le_of_ble_eq_true rfl)⟩ dX3_contains_14) (by omega) (by omega) ?_
    refine pb_ifB_ne C dX3_contains_17 (tgt := 24) (by decide) (fun c17_ => ?_) (fun c17_ => ?_)
    · have c17_ := of_decide_eq_true c17_
      omega
    · have c17_ := of_decide_eq_false c17_
      refine pb_ic C dX3_contains_20 ?_
      refine pb_goto C dX3_contains_21 (tgt := 25) (by decide) ?_
      refine pb_put C in_X3 tyX3 tyX3_ok nmX3 hO (ci := 2) rfl 0 (by decide) q1737 (fun _ h9 => h9) rfl (v := .int (iZ (2))) rfl rfl (Nat.le_of_ble_eq_true rfl) (by omega) dX3_contains_25 fun H1_ hu_ hO => ?_
      have hO : pb_O w H1_ (o) 2 [.int (iZ (2)), .int (iZ ((S.1 1))), .ref (o + 1), .ref (o + 2), .ref (o + 3), .ref (o + 4), .ref (o + 5), .ref (o + 6), .ref (o + 7), .ref (o + 8), .ref (o + 9), .ref (o + 10), .ref (o + 11), .ref (o + 12), .int (iZ ((S.1 2))), .int (iZ ((S.1 3)))] := hO
      have hG := hG.kept (hu_.z (by omega))
      have hA1 := hA1.kept (hu_.2 _ (by omega))
      have hA2 := hA2.kept (hu_.2 _ (by omega))
      have hA3 := hA3.kept (hu_.2 _ (by omega))
      have hA4 := hA4.kept (hu_.2 _ (by omega))
      have hA5 := hA5.kept (hu_.2 _ (by omega))
      have hA6 := hA6.kept (hu_.2 _ (by omega))
      have hA7 := hA7.kept (hu_.2 _ (by omega))
      have hA8 := hA8.kept (hu_.2 _ (by omega))
      have hA9 := hA9.kept (hu_.2 _ (by omega))
      have hA10 := hA10.kept (hu_.2 _ (by omega))
      have hA11 := hA11.kept (hu_.2 _ (by omega))
      have hA12 := hA12.kept (hu_.2 _ (by omega))
      have hF := hF.up hu_ (by omega)
      refine pb_aload_n C dX3_contains_28 rfl (lv_at hl 0 rfl) ?_
      refine pb_get C in_X3 hO.r (ci := 2) rfl 0 (by decide) q1737 (fun _ h9 => h9) (v := .int (iZ (2))) rfl dX3_contains_29 ?_
      refine pb_if_ne C dX3_contains_32 (x := 2) (tgt := 49) (by decide) (by omega) (fun c32_ => ?_) (fun c32_ => ?_)
      · refine pb_ic C dX3_contains_49 ?_
        exact pb_zret C dX3_contains_50 (by decide +kernel) (⟨_, rfl, rfl, ⟨hz, hO, hA1, hA2, hA3, hA4, hA5, hA6, hA7, hA8, hA9, hA10, hA11, hA12⟩, hF⟩)
      · exact absurd c32_ (by decide)
  · have c5_ := of_decide_eq_false c5_
    omega

set_option maxHeartbeats 1000000 in
theorem met_X3_area {w : pb_W} (l : Launch) {H0 : Heap} (o : Nat) (S : mS) (hM : MW w H0 o S) (s : Nat) (hs : s < 8) (hb : mok S) : pb_M w l yX3_area cX3_area 2 (some .int) 5 (0) (0) [.ref (o), .int (iZ (((s : Nat) : Int)))] H0 (pb_qi (fun z H1 => z = ((cnt (mg S s) : Nat) : Int) ∧ MW w H1 o (mI S 0 0) ∧ mF o H0 H1)) := by
  refine pb_of (by decide +kernel) (Nat.le_of_ble_eq_true rfl) ?_
  intro p_ e_ s_ m_ ar_ bl_ me_ co_ ls C hh hG hl
  have hl : lv_has ls 2 [(0, .ref (o)), (1, .int (iZ (((s : Nat) : Int))))] := hl
  have hM0 := hM; obtain ⟨hz, hO, hA1, hA2, hA3, hA4, hA5, hA6, hA7, hA8, hA9, hA10, hA11, hA12⟩ := hM0
  have hF : mF o H0 H0 := mF.rf
  refine pb_aload_n C dX3_area_0 rfl (lv_at hl 0 rfl) ?_
  refine pb_iload_n C dX3_area_1 rfl (lv_at hl 1 rfl) ?_
  refine pb_go_i (bc' := 0) (bs' := 0) (pb_runV (rest := []) C hG (met_X3_looks l o S hM s hs) hO.r (ci := 2) rfl (lw_V q1937 q1939 qs40 q60 q1940) ⟨rfl, hdX3_looks⟩ rfl hl.1 rfl (Nat.le_of_ble_eq_true rfl) ⟨(Nat.le_of_ble_eq_true rfl), (Nat.le_of_ble_eq_true rfl)⟩ dX3_area_2) (by omega) (by omega) (fun z_ H_ hp_ => ?_)
  obtain ⟨rfl, hM, hF⟩ := hp_
  have hG := hG.kept (hF.z hz)
  have hO := hM.2.1
  refine pb_if_eq C dX3_area_5 (x := 1) (tgt := 16) (by decide) (by omega) (fun c5_ => ?_) (fun c5_ => ?_)
  · exact absurd c5_ (by decide)
  · refine pb_aload_n C dX3_area_8 rfl (lv_at hl 0 rfl) ?_
    refine pb_iload_n C dX3_area_9 rfl (lv_at hl 1 rfl) ?_
    refine pb_go_x (bc' := 0) (bs' := 0) (pb_runV (rest := []) C hG (met_X3_count l o (mI S 0 0) hM s hs hb) hO.r (ci := 2) rfl (lw_V q1803 q1805 qs27 q60 q1806) ⟨rfl, hdX3_count⟩ rfl hl.1 rfl (Nat.le_of_ble_eq_true rfl) ⟨(Nat.le_of_ble_eq_true rfl), (Nat.le_of_ble_eq_true rfl)⟩ dX3_area_10) (by omega) (by omega) ?_
    refine pb_goto C dX3_area_13 (tgt := 17) (by decide) ?_
    exact pb_iret C dX3_area_17 (⟨_, rfl, rfl, hM, hF⟩)

set_option maxHeartbeats 1000000 in
theorem met_X3_area_1 {w : pb_W} (l : Launch) {H0 : Heap} (o : Nat) (S : mS) (hM : MW w H0 o S) (s : Int) (hsr : -2147483648 ≤ s ∧ s ≤ 2147483647) (hs : ¬ (0 ≤ s ∧ s ≤ 7)) : pb_M w l yX3_area cX3_area 2 (some .int) 5 (0) (0) [.ref (o), .int (iZ (s))] H0 (pb_qi (fun z H1 => z = 0 ∧ MW w H1 o (mI S 0 1) ∧ mF o H0 H1)) := by
  refine pb_of (by decide +kernel) (Nat.le_of_ble_eq_true rfl) ?_
  intro p_ e_ s_ m_ ar_ bl_ me_ co_ ls C hh hG hl
  have hl : lv_has ls 2 [(0, .ref (o)), (1, .int (iZ (s)))] := hl
  have hM0 := hM; obtain ⟨hz, hO, hA1, hA2, hA3, hA4, hA5, hA6, hA7, hA8, hA9, hA10, hA11, hA12⟩ := hM0
  have hF : mF o H0 H0 := mF.rf
  refine pb_aload_n C dX3_area_0 rfl (lv_at hl 0 rfl) ?_
  refine pb_iload_n C dX3_area_1 rfl (lv_at hl 1 rfl) ?_
  refine pb_go_i (bc' := 0) (bs' := 0) (pb_runV (rest := []) C hG (met_X3_looks_1 l o S hM s hsr hs) hO.r (ci := 2) rfl (lw_V q1937 q1939 qs40 q60 q1940) ⟨rfl, hdX3_looks⟩ rfl hl.1 rfl (Nat.le_of_ble_eq_true rfl) ⟨(Nat.le_of_ble_eq_true rfl), (Nat.le_of_ble_eq_true rfl)⟩ dX3_area_2) (by omega) (by omega) (fun z_ H_ hp_ => ?_)
  obtain ⟨rfl, hM, hF⟩ := hp_
  refine pb_if_eq C dX3_area_5 (x := 0) (tgt := 16) (by decide) (by omega) (fun c5_ => ?_) (fun c5_ => ?_)
  · refine pb_ic C dX3_area_16 ?_
    exact pb_iret C dX3_area_17 (⟨_, rfl, rfl, hM, hF⟩)
  · exact absurd c5_ (by decide)

set_option maxHeartbeats 1000000 in
theorem met_X3_areaByCells {w : pb_W} (l : Launch) {H0 : Heap} (o : Nat) (S : mS) (hM : MW w H0 o S) (s : Nat) (hs : s < 8) (hb : mok S) : pb_M w l yX3_areaByCells cX3_areaByCells 2 (some .int) 6 (0) (0) [.ref (o), .int (iZ (((s : Nat) : Int)))] H0 (pb_qi (fun z H1 => z = ((cnt (mg S s) : Nat) : Int) ∧ MW w H1 o (mI S 0 0) ∧ mF o H0 H1)) := by
  refine pb_of (by decide +kernel) (Nat.le_of_ble_eq_true rfl) ?_
  intro p_ e_ s_ m_ ar_ bl_ me_ co_ ls C hh hG hl
  have hl : lv_has ls 2 [(0, .ref (o)), (1, .int (iZ (((s : Nat) : Int))))] := hl
  have hM0 := hM; obtain ⟨hz, hO, hA1, hA2, hA3, hA4, hA5, hA6, hA7, hA8, hA9, hA10, hA11, hA12⟩ := hM0
  have hF : mF o H0 H0 := mF.rf
  refine pb_aload_n C dX3_areaByCells_0 rfl (lv_at hl 0 rfl) ?_
  refine pb_iload_n C dX3_areaByCells_1 rfl (lv_at hl 1 rfl) ?_
  refine pb_go_i (bc' := 0) (bs' := 0) (pb_runV (rest := []) C hG (met_X3_area l o S hM s hs hb) hO.r (ci := 2) rfl (lw_V q1945 q1934 q1935 q60 q1936) ⟨rfl, hdX3_area⟩ rfl hl.1 rfl (Nat.le_of_ble_eq_true rfl) ⟨(Nat.le_of_ble_eq_true rfl), (Nat.le_of_ble_eq_true rfl)⟩ dX3_areaByCells_2) (by omega) (by omega) (fun z_ H_ hp_ => ?_)
  obtain ⟨hz_, hM, hF⟩ := hp_
  exact pb_iret C dX3_areaByCells_5 (⟨_, rfl, hz_, hM, hF⟩)

set_option maxHeartbeats 1000000 in
theorem met_X3_areaByCells_1 {w : pb_W} (l : Launch) {H0 : Heap} (o : Nat) (S : mS) (hM : MW w H0 o S) (s : Int) (hsr : -2147483648 ≤ s ∧ s ≤ 2147483647) (hs : ¬ (0 ≤ s ∧ s ≤ 7)) : pb_M w l yX3_areaByCells cX3_areaByCells 2 (some .int) 6 (0) (0) [.ref (o), .int (iZ (s))] H0 (pb_qi (fun z H1 => z = 0 ∧ MW w H1 o (mI S 0 1) ∧ mF o H0 H1)) := by
  refine pb_of (by decide +kernel) (Nat.le_of_ble_eq_true rfl) ?_
  intro p_ e_ s_ m_ ar_ bl_ me_ co_ ls C hh hG hl
  have hl : lv_has ls 2 [(0, .ref (o)), (1, .int (iZ (s)))] := hl
  have hM0 := hM; obtain ⟨hz, hO, hA1, hA2, hA3, hA4, hA5, hA6, hA7, hA8, hA9, hA10, hA11, hA12⟩ := hM0
  have hF : mF o H0 H0 := mF.rf
  refine pb_aload_n C dX3_areaByCells_0 rfl (lv_at hl 0 rfl) ?_
  refine pb_iload_n C dX3_areaByCells_1 rfl (lv_at hl 1 rfl) ?_
  refine pb_go_i (bc' := 0) (bs' := 0) (pb_runV (rest := []) C hG (met_X3_area_1 l o S hM s hsr hs) hO.r (ci := 2) rfl (lw_V q1945 q1934 q1935 q60 q1936) ⟨rfl, hdX3_area⟩ rfl hl.1 rfl (Nat.le_of_ble_eq_true rfl) ⟨(Nat.le_of_ble_eq_true rfl), (Nat.le_of_ble_eq_true rfl)⟩ dX3_areaByCells_2) (by omega) (by omega) (fun z_ H_ hp_ => ?_)
  obtain ⟨rfl, hM, hF⟩ := hp_
  exact pb_iret C dX3_areaByCells_5 (⟨_, rfl, rfl, hM, hF⟩)

set_option maxHeartbeats 1000000 in
theorem met_X3_perimeter {w : pb_W} (l : Launch) {H0 : Heap} (o : Nat) (S : mS) (hM : MW w H0 o S) (s : Nat) (hs : s < 8) (hb : mok S) : pb_M w l yX3_perimeter cX3_perimeter 5 (some .int) 5 (0) (0) [.ref (o), .int (iZ (((s : Nat) : Int)))] H0 (pb_qi (fun z H1 => z = ((permV (mg S s) : Nat) : Int) ∧ MW w H1 o (mI S 0 0) ∧ mF o H0 H1)) := by
  refine pb_of (by decide +kernel) (Nat.le_of_ble_eq_true rfl) ?_
  intro p_ e_ s_ m_ ar_ bl_ me_ co_ ls C hh hG hl
  have hl : lv_has ls 5 [(0, .ref (o)), (1, .int (iZ (((s : Nat) : Int))))] := hl
  have hM0 := hM; obtain ⟨hz, hO, hA1, hA2, hA3, hA4, hA5, hA6, hA7, hA8, hA9, hA10, hA11, hA12⟩ := hM0
  have hF : mF o H0 H0 := mF.rf
  have L14 : ∀ (n_ : Nat) (k t : Nat) (H : Heap), 25 - k = n_ → (pb_G w s_ H) → (MW w H o (mI S 0 0)) → (mF o H0 H) → (k ≤ 25) → (t = sm (fun y => pop 32 ((mg S s) y ^^^ gr (mg S s) ((y : Int) - 1)) + pop 32 ((mg S s) y ^^^ (mg S s) y <<< 1)) k) → ∀ (ls : Array Slot), lv_has ls 5 [(0, .ref (o)), (1, .int (iZ (((s : Nat) : Int)))), (2, .int (iZ (((t : Nat) : Int)))), (3, .int (iZ (((k : Nat) : Int))))] → pb_V w.2.2.2 p_ l e_ (pb_rm 5 (0) (0)) s_ m_ ar_ bl_ me_ co_ H (0) (0) (pb_E w bl_ ar_ s_ (0) (0) (pb_qi (fun z H1 => z = ((permV (mg S s) : Nat) : Int) ∧ MW w H1 o (mI S 0 0) ∧ mF o H0 H1))) (F0 m_ 14 ls []) := by
    intro n_
    induction n_ using Nat.strongRecOn with
    | _ n_ ih14 =>
    intro k t H hm_ hG hM hF hk ht ls hl
    have hM0 := hM; obtain ⟨hz, hO, hA1, hA2, hA3, hA4, hA5, hA6, hA7, hA8, hA9, hA10, hA11, hA12⟩ := hM0
    have hO : pb_O w H o 2 [.int (iZ ((0))), .int (iZ ((S.1 1))), .ref (o + 1), .ref (o + 2), .ref (o + 3), .ref (o + 4), .ref (o + 5), .ref (o + 6), .ref (o + 7), .ref (o + 8), .ref (o + 9), .ref (o + 10), .ref (o + 11), .ref (o + 12), .int (iZ ((S.1 2))), .int (iZ ((S.1 3)))] := hO
    have hA1 : pb_A w H (o + 1) 0 192 (pb_nf (S.2.1 0)) := hA1
    have hA2 : pb_A w H (o + 2) 0 24 (pb_nf (S.2.1 1)) := hA2
    have hA3 : pb_A w H (o + 3) 0 26 (pb_nf (S.2.1 2)) := hA3
    have hA4 : pb_A w H (o + 4) 0 26 (pb_nf (S.2.1 3)) := hA4
    have hA5 : pb_A w H (o + 5) 0 40 (pb_zf (S.2.2 0)) := hA5
    have hA6 : pb_A w H (o + 6) 0 40 (pb_zf (S.2.2 1)) := hA6
    have hA7 : pb_A w H (o + 7) 0 576 (pb_zf (S.2.2 2)) := hA7
    have hA8 : pb_A w H (o + 8) 0 1300 (pb_zf (S.2.2 3)) := hA8
    have hA9 : pb_A w H (o + 9) 0 1300 (pb_zf (S.2.2 4)) := hA9
    have hA10 : pb_A w H (o + 10) 0 400 (pb_zf (S.2.2 5)) := hA10
    have hA11 : pb_A w H (o + 11) 0 400 (pb_zf (S.2.2 6)) := hA11
    have hA12 : pb_A w H (o + 12) 0 625 (pb_nf (S.2.1 4)) := hA12
    refine pb_iload_n C dX3_perimeter_14 rfl (lv_at hl 3 rfl) ?_
    refine pb_bip C dX3_perimeter_15 (by decide) ?_
    refine pb_icmp_gt C dX3_perimeter_17 (x := ((k : Nat) : Int)) (y := 24) (tgt := 62) (by decide) (by omega) (by omega) (fun c17_ => ?_) (fun c17_ => ?_)
    · refine pb_iload_n C dX3_perimeter_62 rfl (lv_at hl 2 rfl) ?_
      exact pb_iret C dX3_perimeter_63 (⟨_, rfl, by rw [ht, show k = 25 from by omega]; rfl, hM, hF⟩)
    · have hgk := (mg_ok hb hs).1 k
      have hgr := gr_lt (mg_ok hb hs) (((k : Nat) : Int) - 1)
      have hsh := shl1_lt hgk
      refine pb_aload_n C dX3_perimeter_20 rfl (lv_at hl 0 rfl) ?_
      refine pb_iload_n C dX3_perimeter_21 rfl (lv_at hl 1 rfl) ?_
      refine pb_iload_n C dX3_perimeter_22 rfl (lv_at hl 3 rfl) ?_
      refine pb_go_x (bc' := 0) (bs' := 0) (pb_runV (rest := []) C hG (met_X3_row l o (mI S 0 0) hM s (by omega) (((k : Nat) : Int)) (by omega)) hO.r (ci := 2) rfl (lw_V q1807 q1809 qs28 q60 q1810) ⟨rfl, hdX3_row⟩ rfl hl.1 rfl (Nat.le_of_ble_eq_true rfl) ⟨(Nat.le_of_ble_eq_true rfl), (Nat.le_of_ble_eq_true rfl)⟩ dX3_perimeter_23) (by omega) (by omega) ?_
      refine pb_eq (g2 := F0 m_ 26 ls [.int (iZ (((((mg S s) k) : Nat) : Int)))]) (congrArg (fun z9 => F0 m_ 26 ls [.int (iZ z9)]) (show (((gr (mg (mI S 0 0) s) (((k : Nat) : Int))) : Nat) : Int) = ((((mg S s) k) : Nat) : Int) from congrArg (fun n : Nat => (n : Int)) (gr_nat (mg S s) k))) ?_
      refine pb_istore C dX3_perimeter_26 hl (by decide) rfl fun ls hl => ?_
      have hl : lv_has ls 5 [(4, .int (iZ (((((mg S s) k) : Nat) : Int)))), (0, .ref (o)), (1, .int (iZ (((s : Nat) : Int)))), (2, .int (iZ (((t : Nat) : Int)))), (3, .int (iZ (((k : Nat) : Int))))] := hl
      refine pb_iload_n C dX3_perimeter_28 rfl (lv_at hl 3 rfl) ?_
      refine pb_iload C dX3_perimeter_29 (lv_at hl 0 rfl) ?_
      refine pb_aload_n C dX3_perimeter_31 rfl (lv_at hl 1 rfl) ?_
      refine pb_iload_n C dX3_perimeter_32 rfl (lv_at hl 2 rfl) ?_
      refine pb_iload_n C dX3_perimeter_33 rfl (lv_at hl 4 rfl) ?_
      refine pb_ic C dX3_perimeter_34 ?_
      refine pb_isub C dX3_perimeter_35 ?_
      refine pb_go_x (bc' := 0) (bs' := 0) (pb_runV (rest := [.int (iZ (((((mg S s) k) : Nat) : Int))), .int (iZ (((t : Nat) : Int)))]) C hG (met_X3_row l o (mI S 0 0) hM s (by omega) ((((k : Nat) : Int) - 1)) (by omega)) hO.r (ci := 2) rfl (lw_V q1807 q1809 qs28 q60 q1810) ⟨rfl, hdX3_row⟩ rfl hl.1 rfl (Nat.le_of_ble_eq_true rfl) ⟨(Nat.le_of_ble_eq_true rfl), (Nat.le_of_ble_eq_true rfl)⟩ dX3_perimeter_36) (by omega) (by omega) ?_
      refine pb_eq (g2 := F0 m_ 39 ls [.int (iZ ((((gr (mg S s) (((k : Nat) : Int) - 1)) : Nat) : Int))), .int (iZ (((((mg S s) k) : Nat) : Int))), .int (iZ (((t : Nat) : Int)))]) (congrArg (fun z9 => F0 m_ 39 ls [.int (iZ z9), .int (iZ (((((mg S s) k) : Nat) : Int))), .int (iZ (((t : Nat) : Int)))]) (show (((gr (mg (mI S 0 0) s) ((((k : Nat) : Int) - 1))) : Nat) : Int) = (((gr (mg S s) (((k : Nat) : Int) - 1)) : Nat) : Int) from rfl)) ?_
      refine pb_ixor C dX3_perimeter_39 (x := ((mg S s) k)) (y := (gr (mg S s) (((k : Nat) : Int) - 1))) ?_
      refine pb_go_x (bc' := 0) (bs' := 0) (pb_runS (rest := [.int (iZ (((t : Nat) : Int)))]) C hG (met_X3_bits l (((mg S s) k ^^^ gr (mg S s) (((k : Nat) : Int) - 1))) (xor_lt31 (by omega) (by omega))) (lw_S q1811 q1812 q60 q1813) hdX3_bits rfl hl.1 rfl (Nat.le_of_ble_eq_true rfl) ⟨(Nat.le_of_ble_eq_true rfl), (Nat.le_of_ble_eq_true rfl)⟩ dX3_perimeter_40) (by omega) (by omega) ?_
      refine pb_iload C dX3_perimeter_43 (lv_at hl 0 rfl) ?_
      refine pb_iload C dX3_perimeter_45 (lv_at hl 0 rfl) ?_
      refine pb_ic C dX3_perimeter_47 ?_
      refine pb_ishl C dX3_perimeter_48 (x := ((mg S s) k)) (y := 1) (by omega) ?_
      refine pb_ixor C dX3_perimeter_49 (x := ((mg S s) k)) (y := (((mg S s) k) <<< 1)) ?_
      refine pb_go_x (bc' := 0) (bs' := 0) (pb_runS (rest := [.int (iZ ((((pop 32 (((mg S s) k ^^^ gr (mg S s) (((k : Nat) : Int) - 1)))) : Nat) : Int))), .int (iZ (((t : Nat) : Int)))]) C hG (met_X3_bits l (((mg S s) k ^^^ (mg S s) k <<< 1)) (xor_lt31 (by omega) (by omega))) (lw_S q1811 q1812 q60 q1813) hdX3_bits rfl hl.1 rfl (Nat.le_of_ble_eq_true rfl) ⟨(Nat.le_of_ble_eq_true rfl), (Nat.le_of_ble_eq_true rfl)⟩ dX3_perimeter_50) (by omega) (by omega) ?_
      refine pb_iadd C dX3_perimeter_53 ?_
      refine pb_iadd C dX3_perimeter_54 ?_
      refine pb_istore_n C dX3_perimeter_55 rfl hl (by decide) rfl fun ls hl => ?_
      have hl : lv_has ls 5 [(2, .int (iZ ((((t + ((pop 32 (((mg S s) k ^^^ gr (mg S s) (((k : Nat) : Int) - 1)))) + (pop 32 (((mg S s) k ^^^ (mg S s) k <<< 1))))) : Nat) : Int)))), (4, .int (iZ (((((mg S s) k) : Nat) : Int)))), (0, .ref (o)), (1, .int (iZ (((s : Nat) : Int)))), (3, .int (iZ (((k : Nat) : Int))))] := hl
      refine pb_iinc C dX3_perimeter_56 hl (j := 4) (x := (((k : Nat) : Int))) rfl (by decide) rfl fun ls hl => ?_
      have hl : lv_has ls 5 [(3, .int (iZ ((((k + 1) : Nat) : Int)))), (2, .int (iZ ((((t + ((pop 32 (((mg S s) k ^^^ gr (mg S s) (((k : Nat) : Int) - 1)))) + (pop 32 (((mg S s) k ^^^ (mg S s) k <<< 1))))) : Nat) : Int)))), (4, .int (iZ (((((mg S s) k) : Nat) : Int)))), (0, .ref (o)), (1, .int (iZ (((s : Nat) : Int))))] := hl
      refine pb_goto C dX3_perimeter_59 (tgt := 14) (by decide) ?_
      exact pb_V.mono (by omega) (by omega) (ih14 _ (by omega) (k + 1) (t + ((pop 32 (((mg S s) k ^^^ gr (mg S s) (((k : Nat) : Int) - 1)))) + (pop 32 (((mg S s) k ^^^ (mg S s) k <<< 1))))) H rfl hG hM hF (by omega) (by rw [sm, ← ht]) ls (lv_sub hl [3, 4, 1, 0] rfl))
  refine pb_aload_n C dX3_perimeter_0 rfl (lv_at hl 0 rfl) ?_
  refine pb_iload_n C dX3_perimeter_1 rfl (lv_at hl 1 rfl) ?_
  refine pb_go_i (bc' := 0) (bs' := 0) (pb_runV (rest := []) C hG (met_X3_looks l o S hM s hs) hO.r (ci := 2) rfl (lw_V q1937 q1939 qs40 q60 q1940) ⟨rfl, hdX3_looks⟩ rfl hl.1 rfl (Nat.le_of_ble_eq_true rfl) ⟨(Nat.le_of_ble_eq_true rfl), (Nat.le_of_ble_eq_true rfl)⟩ dX3_perimeter_2) (by omega) (by omega) (fun z_ H_ hp_ => ?_)
  obtain ⟨rfl, hM, hF⟩ := hp_
  have hG := hG.kept (hF.z hz)
  have hO := hM.2.1
  refine pb_if_ne C dX3_perimeter_5 (x := 1) (tgt := 10) (by decide) (by omega) (fun c5_ => ?_) (fun c5_ => ?_)
  · refine pb_ic C dX3_perimeter_10 ?_
    refine pb_istore_n C dX3_perimeter_11 rfl hl (by decide) rfl fun ls hl => ?_
    have hl : lv_has ls 5 [(2, .int (iZ (0))), (0, .ref (o)), (1, .int (iZ (((s : Nat) : Int))))] := hl
    refine pb_ic C dX3_perimeter_12 ?_
    refine pb_istore_n C dX3_perimeter_13 rfl hl (by decide) rfl fun ls hl => ?_
    have hl : lv_has ls 5 [(3, .int (iZ (0))), (2, .int (iZ (0))), (0, .ref (o)), (1, .int (iZ (((s : Nat) : Int))))] := hl
    exact pb_V.mono (by omega) (by omega) (L14 _ 0 0 H_ rfl hG hM hF (by omega) rfl ls (lv_sub hl [2, 3, 1, 0] rfl))
  · exact absurd c5_ (by decide)

set_option maxHeartbeats 1000000 in
theorem met_X3_perimeter_1 {w : pb_W} (l : Launch) {H0 : Heap} (o : Nat) (S : mS) (hM : MW w H0 o S) (s : Int) (hsr : -2147483648 ≤ s ∧ s ≤ 2147483647) (hs : ¬ (0 ≤ s ∧ s ≤ 7)) : pb_M w l yX3_perimeter cX3_perimeter 5 (some .int) 5 (0) (0) [.ref (o), .int (iZ (s))] H0 (pb_qi (fun z H1 => z = 0 ∧ MW w H1 o (mI S 0 1) ∧ mF o H0 H1)) := by
  refine pb_of (by decide +kernel) (Nat.le_of_ble_eq_true rfl) ?_
  intro p_ e_ s_ m_ ar_ bl_ me_ co_ ls C hh hG hl
  have hl : lv_has ls 5 [(0, .ref (o)), (1, .int (iZ (s)))] := hl
  have hM0 := hM; obtain ⟨hz, hO, hA1, hA2, hA3, hA4, hA5, hA6, hA7, hA8, hA9, hA10, hA11, hA12⟩ := hM0
  have hF : mF o H0 H0 := mF.rf
  refine pb_aload_n C dX3_perimeter_0 rfl (lv_at hl 0 rfl) ?_
  refine pb_iload_n C dX3_perimeter_1 rfl (lv_at hl 1 rfl) ?_
  refine pb_go_i (bc' := 0) (bs' := 0) (pb_runV (rest := []) C hG (met_X3_looks_1 l o S hM s hsr hs) hO.r (ci := 2) rfl (lw_V q1937 q1939 qs40 q60 q1940) ⟨rfl, hdX3_looks⟩ rfl hl.1 rfl (Nat.le_of_ble_eq_true rfl) ⟨(Nat.le_of_ble_eq_true rfl), (Nat.le_of_ble_eq_true rfl)⟩ dX3_perimeter_2) (by omega) (by omega) (fun z_ H_ hp_ => ?_)
  obtain ⟨rfl, hM, hF⟩ := hp_
  refine pb_if_ne C dX3_perimeter_5 (x := 0) (tgt := 10) (by decide) (by omega) (fun c5_ => ?_) (fun c5_ => ?_)
  · exact absurd c5_ (by decide)
  · refine pb_ic C dX3_perimeter_8 ?_
    exact pb_iret C dX3_perimeter_9 (⟨_, rfl, rfl, hM, hF⟩)

set_option maxHeartbeats 1000000 in
theorem met_X3_perimeterByCells {w : pb_W} (l : Launch) {H0 : Heap} (o : Nat) (S : mS) (hM : MW w H0 o S) (s : Nat) (hs : s < 8) (hb : mok S) : pb_M w l yX3_perimeterByCells cX3_perimeterByCells 2 (some .int) 6 (0) (0) [.ref (o), .int (iZ (((s : Nat) : Int)))] H0 (pb_qi (fun z H1 => z = ((permV (mg S s) : Nat) : Int) ∧ MW w H1 o (mI S 0 0) ∧ mF o H0 H1)) := by
  refine pb_of (by decide +kernel) (Nat.le_of_ble_eq_true rfl) ?_
  intro p_ e_ s_ m_ ar_ bl_ me_ co_ ls C hh hG hl
  have hl : lv_has ls 2 [(0, .ref (o)), (1, .int (iZ (((s : Nat) : Int))))] := hl
  have hM0 := hM; obtain ⟨hz, hO, hA1, hA2, hA3, hA4, hA5, hA6, hA7, hA8, hA9, hA10, hA11, hA12⟩ := hM0
  have hF : mF o H0 H0 := mF.rf
  refine pb_aload_n C dX3_perimeterByCells_0 rfl (lv_at hl 0 rfl) ?_
  refine pb_iload_n C dX3_perimeterByCells_1 rfl (lv_at hl 1 rfl) ?_
  refine pb_go_i (bc' := 0) (bs' := 0) (pb_runV (rest := []) C hG (met_X3_perimeter l o S hM s hs hb) hO.r (ci := 2) rfl (lw_V q1954 q1947 q1948 q60 q1949) ⟨rfl, hdX3_perimeter⟩ rfl hl.1 rfl (Nat.le_of_ble_eq_true rfl) ⟨(Nat.le_of_ble_eq_true rfl), (Nat.le_of_ble_eq_true rfl)⟩ dX3_perimeterByCells_2) (by omega) (by omega) (fun z_ H_ hp_ => ?_)
  obtain ⟨hz_, hM, hF⟩ := hp_
  exact pb_iret C dX3_perimeterByCells_5 (⟨_, rfl, hz_, hM, hF⟩)

set_option maxHeartbeats 1000000 in
theorem met_X3_perimeterByCells_1 {w : pb_W} (l : Launch) {H0 : Heap} (o : Nat) (S : mS) (hM : MW w H0 o S) (s : Int) (hsr : -2147483648 ≤ s ∧ s ≤ 2147483647) (hs : ¬ (0 ≤ s ∧ s ≤ 7)) : pb_M w l yX3_perimeterByCells cX3_perimeterByCells 2 (some .int) 6 (0) (0) [.ref (o), .int (iZ (s))] H0 (pb_qi (fun z H1 => z = 0 ∧ MW w H1 o (mI S 0 1) ∧ mF o H0 H1)) := by
  refine pb_of (by decide +kernel) (Nat.le_of_ble_eq_true rfl) ?_
  intro p_ e_ s_ m_ ar_ bl_ me_ co_ ls C hh hG hl
  have hl : lv_has ls 2 [(0, .ref (o)), (1, .int (iZ (s)))] := hl
  have hM0 := hM; obtain ⟨hz, hO, hA1, hA2, hA3, hA4, hA5, hA6, hA7, hA8, hA9, hA10, hA11, hA12⟩ := hM0
  have hF : mF o H0 H0 := mF.rf
  refine pb_aload_n C dX3_perimeterByCells_0 rfl (lv_at hl 0 rfl) ?_
  refine pb_iload_n C dX3_perimeterByCells_1 rfl (lv_at hl 1 rfl) ?_
  refine pb_go_i (bc' := 0) (bs' := 0) (pb_runV (rest := []) C hG (met_X3_perimeter_1 l o S hM s hsr hs) hO.r (ci := 2) rfl (lw_V q1954 q1947 q1948 q60 q1949) ⟨rfl, hdX3_perimeter⟩ rfl hl.1 rfl (Nat.le_of_ble_eq_true rfl) ⟨(Nat.le_of_ble_eq_true rfl), (Nat.le_of_ble_eq_true rfl)⟩ dX3_perimeterByCells_2) (by omega) (by omega) (fun z_ H_ hp_ => ?_)
  obtain ⟨rfl, hM, hF⟩ := hp_
  exact pb_iret C dX3_perimeterByCells_5 (⟨_, rfl, rfl, hM, hF⟩)

set_option maxHeartbeats 1000000 in
theorem met_X3_bandCount {w : pb_W} (l : Launch) {H0 : Heap} (o : Nat) (S : mS) (hM : MW w H0 o S) (s : Nat) (hs : s < 8) (hb : mok S) : pb_M w l yX3_bandCount cX3_bandCount 4 (some .int) 5 (0) (0) [.ref (o), .int (iZ (((s : Nat) : Int)))] H0 (pb_qi (fun z H1 => z = ((bandV (mg S s) : Nat) : Int) ∧ MW w H1 o (mI S 0 0) ∧ mF o H0 H1)) := by
  refine pb_of (by decide +kernel) (Nat.le_of_ble_eq_true rfl) ?_
  intro p_ e_ s_ m_ ar_ bl_ me_ co_ ls C hh hG hl
  have hl : lv_has ls 4 [(0, .ref (o)), (1, .int (iZ (((s : Nat) : Int))))] := hl
  have hM0 := hM; obtain ⟨hz, hO, hA1, hA2, hA3, hA4, hA5, hA6, hA7, hA8, hA9, hA10, hA11, hA12⟩ := hM0
  have hF : mF o H0 H0 := mF.rf
  have L14 : ∀ (n_ : Nat) (k t : Nat) (H : Heap), 24 - k = n_ → (pb_G w s_ H) → (MW w H o (mI S 0 0)) → (mF o H0 H) → (k ≤ 24) → (t = sm (fun y => if (mg S s) y ≠ 0 ∧ (mg S s) y ≠ gr (mg S s) ((y : Int) - 1) then 1 else 0) k) → ∀ (ls : Array Slot), lv_has ls 4 [(0, .ref (o)), (1, .int (iZ (((s : Nat) : Int)))), (2, .int (iZ (((t : Nat) : Int)))), (3, .int (iZ (((k : Nat) : Int))))] → pb_V w.2.2.2 p_ l e_ (pb_rm 5 (0) (0)) s_ m_ ar_ bl_ me_ co_ H (0) (0) (pb_E w bl_ ar_ s_ (0) (0) (pb_qi (fun z H1 => z = ((bandV (mg S s) : Nat) : Int) ∧ MW w H1 o (mI S 0 0) ∧ mF o H0 H1))) (F0 m_ 14 ls []) := by
    intro n_
    induction n_ using Nat.strongRecOn with
    | _ n_ ih14 =>
    intro k t H hm_ hG hM hF hk ht ls hl
    have hM0 := hM; obtain ⟨hz, hO, hA1, hA2, hA3, hA4, hA5, hA6, hA7, hA8, hA9, hA10, hA11, hA12⟩ := hM0
    have hO : pb_O w H o 2 [.int (iZ ((0))), .int (iZ ((S.1 1))), .ref (o + 1), .ref (o + 2), .ref (o + 3), .ref (o + 4), .ref (o + 5), .ref (o + 6), .ref (o + 7), .ref (o + 8), .ref (o + 9), .ref (o + 10), .ref (o + 11), .ref (o + 12), .int (iZ ((S.1 2))), .int (iZ ((S.1 3)))] := hO
    have hA1 : pb_A w H (o + 1) 0 192 (pb_nf (S.2.1 0)) := hA1
    have hA2 : pb_A w H (o + 2) 0 24 (pb_nf (S.2.1 1)) := hA2
    have hA3 : pb_A w H (o + 3) 0 26 (pb_nf (S.2.1 2)) := hA3
    have hA4 : pb_A w H (o + 4) 0 26 (pb_nf (S.2.1 3)) := hA4
    have hA5 : pb_A w H (o + 5) 0 40 (pb_zf (S.2.2 0)) := hA5
    have hA6 : pb_A w H (o + 6) 0 40 (pb_zf (S.2.2 1)) := hA6
    have hA7 : pb_A w H (o + 7) 0 576 (pb_zf (S.2.2 2)) := hA7
    have hA8 : pb_A w H (o + 8) 0 1300 (pb_zf (S.2.2 3)) := hA8
    have hA9 : pb_A w H (o + 9) 0 1300 (pb_zf (S.2.2 4)) := hA9
    have hA10 : pb_A w H (o + 10) 0 400 (pb_zf (S.2.2 5)) := hA10
    have hA11 : pb_A w H (o + 11) 0 400 (pb_zf (S.2.2 6)) := hA11
    have hA12 : pb_A w H (o + 12) 0 625 (pb_nf (S.2.1 4)) := hA12
    refine pb_iload_n C dX3_bandCount_14 rfl (lv_at hl 3 rfl) ?_
    refine pb_bip C dX3_bandCount_15 (by decide) ?_
    refine pb_icmp_ge C dX3_bandCount_17 (x := ((k : Nat) : Int)) (y := 24) (tgt := 60) (by decide) (by omega) (by omega) (fun c17_ => ?_) (fun c17_ => ?_)
    · refine pb_iload_n C dX3_bandCount_60 rfl (lv_at hl 2 rfl) ?_
      exact pb_iret C dX3_bandCount_61 (⟨_, rfl, by rw [ht, show k = 24 from by omega]; rfl, hM, hF⟩)
    · have hgk := (mg_ok hb hs).1 k
      have hgr := gr_lt (mg_ok hb hs) (((k : Nat) : Int) - 1)
      have hsh := shl1_lt hgk
      refine pb_iload_n C dX3_bandCount_20 rfl (lv_at hl 2 rfl) ?_
      refine pb_aload_n C dX3_bandCount_21 rfl (lv_at hl 0 rfl) ?_
      refine pb_iload_n C dX3_bandCount_22 rfl (lv_at hl 1 rfl) ?_
      refine pb_iload_n C dX3_bandCount_23 rfl (lv_at hl 3 rfl) ?_
      refine pb_go_x (bc' := 0) (bs' := 0) (pb_runV (rest := [.int (iZ (((t : Nat) : Int)))]) C hG (met_X3_row l o (mI S 0 0) hM s (by omega) (((k : Nat) : Int)) (by omega)) hO.r (ci := 2) rfl (lw_V q1807 q1809 qs28 q60 q1810) ⟨rfl, hdX3_row⟩ rfl hl.1 rfl (Nat.le_of_ble_eq_true rfl) ⟨(Nat.le_of_ble_eq_true rfl), (Nat.le_of_ble_eq_true rfl)⟩ dX3_bandCount_24) (by omega) (by omega) ?_
      refine pb_eq (g2 := F0 m_ 27 ls [.int (iZ (((((mg S s) k) : Nat) : Int))), .int (iZ (((t : Nat) : Int)))]) (congrArg (fun z9 => F0 m_ 27 ls [.int (iZ z9), .int (iZ (((t : Nat) : Int)))]) (show (((gr (mg (mI S 0 0) s) (((k : Nat) : Int))) : Nat) : Int) = ((((mg S s) k) : Nat) : Int) from congrArg (fun n : Nat => (n : Int)) (gr_nat (mg S s) k))) ?_
      refine pb_if_eq C dX3_bandCount_27 (x := ((((mg S s) k) : Nat) : Int)) (tgt := 51) (by decide) (by omega) (fun c27_ => ?_) (fun c27_ => ?_)
      · refine pb_ic C dX3_bandCount_51 ?_
        refine pb_iadd C dX3_bandCount_52 ?_
        refine pb_istore_n C dX3_bandCount_53 rfl hl (by decide) rfl fun ls hl => ?_
        have hl : lv_has ls 4 [(2, .int (iZ ((((t + 0) : Nat) : Int)))), (0, .ref (o)), (1, .int (iZ (((s : Nat) : Int)))), (3, .int (iZ (((k : Nat) : Int))))] := hl
        refine pb_iinc C dX3_bandCount_54 hl (j := 3) (x := (((k : Nat) : Int))) rfl (by decide) rfl fun ls hl => ?_
        have hl : lv_has ls 4 [(3, .int (iZ ((((k + 1) : Nat) : Int)))), (2, .int (iZ ((((t + 0) : Nat) : Int)))), (0, .ref (o)), (1, .int (iZ (((s : Nat) : Int))))] := hl
        refine pb_goto C dX3_bandCount_57 (tgt := 14) (by decide) ?_
        exact pb_V.mono (by omega) (by omega) (ih14 _ (by omega) (k + 1) (t + 0) H rfl hG hM hF (by omega) (by rw [sm, ← ht]; split <;> omega) ls (lv_sub hl [2, 3, 1, 0] rfl))
      · refine pb_aload_n C dX3_bandCount_30 rfl (lv_at hl 0 rfl) ?_
        refine pb_iload_n C dX3_bandCount_31 rfl (lv_at hl 1 rfl) ?_
        refine pb_iload_n C dX3_bandCount_32 rfl (lv_at hl 3 rfl) ?_
        refine pb_go_x (bc' := 0) (bs' := 0) (pb_runV (rest := [.int (iZ (((t : Nat) : Int)))]) C hG (met_X3_row l o (mI S 0 0) hM s (by omega) (((k : Nat) : Int)) (by omega)) hO.r (ci := 2) rfl (lw_V q1807 q1809 qs28 q60 q1810) ⟨rfl, hdX3_row⟩ rfl hl.1 rfl (Nat.le_of_ble_eq_true rfl) ⟨(Nat.le_of_ble_eq_true rfl), (Nat.le_of_ble_eq_true rfl)⟩ dX3_bandCount_33) (by omega) (by omega) ?_
        refine pb_eq (g2 := F0 m_ 36 ls [.int (iZ (((((mg S s) k) : Nat) : Int))), .int (iZ (((t : Nat) : Int)))]) (congrArg (fun z9 => F0 m_ 36 ls [.int (iZ z9), .int (iZ (((t : Nat) : Int)))]) (show (((gr (mg (mI S 0 0) s) (((k : Nat) : Int))) : Nat) : Int) = ((((mg S s) k) : Nat) : Int) from congrArg (fun n : Nat => (n : Int)) (gr_nat (mg S s) k))) ?_
        refine pb_aload_n C dX3_bandCount_36 rfl (lv_at hl 0 rfl) ?_
        refine pb_iload_n C dX3_bandCount_37 rfl (lv_at hl 1 rfl) ?_
        refine pb_iload_n C dX3_bandCount_38 rfl (lv_at hl 3 rfl) ?_
        refine pb_ic C dX3_bandCount_39 ?_
        refine pb_isub C dX3_bandCount_40 ?_
        refine pb_go_x (bc' := 0) (bs' := 0) (pb_runV (rest := [.int (iZ (((((mg S s) k) : Nat) : Int))), .int (iZ (((t : Nat) : Int)))]) C hG (met_X3_row l o (mI S 0 0) hM s (by omega) ((((k : Nat) : Int) - 1)) (by omega)) hO.r (ci := 2) rfl (lw_V q1807 q1809 qs28 q60 q1810) ⟨rfl, hdX3_row⟩ rfl hl.1 rfl (Nat.le_of_ble_eq_true rfl) ⟨(Nat.le_of_ble_eq_true rfl), (Nat.le_of_ble_eq_true rfl)⟩ dX3_bandCount_41) (by omega) (by omega) ?_
        refine pb_eq (g2 := F0 m_ 44 ls [.int (iZ ((((gr (mg S s) (((k : Nat) : Int) - 1)) : Nat) : Int))), .int (iZ (((((mg S s) k) : Nat) : Int))), .int (iZ (((t : Nat) : Int)))]) (congrArg (fun z9 => F0 m_ 44 ls [.int (iZ z9), .int (iZ (((((mg S s) k) : Nat) : Int))), .int (iZ (((t : Nat) : Int)))]) (show (((gr (mg (mI S 0 0) s) ((((k : Nat) : Int) - 1))) : Nat) : Int) = (((gr (mg S s) (((k : Nat) : Int) - 1)) : Nat) : Int) from rfl)) ?_
        refine pb_icmp_eq C dX3_bandCount_44 (x := ((((mg S s) k) : Nat) : Int)) (y := (((gr (mg S s) (((k : Nat) : Int) - 1)) : Nat) : Int)) (tgt := 51) (by decide) (by omega) (by omega) (fun c44_ => ?_) (fun c44_ => ?_)
        · refine pb_ic C dX3_bandCount_51 ?_
          refine pb_iadd C dX3_bandCount_52 ?_
          refine pb_istore_n C dX3_bandCount_53 rfl hl (by decide) rfl fun ls hl => ?_
          have hl : lv_has ls 4 [(2, .int (iZ ((((t + 0) : Nat) : Int)))), (0, .ref (o)), (1, .int (iZ (((s : Nat) : Int)))), (3, .int (iZ (((k : Nat) : Int))))] := hl
          refine pb_iinc C dX3_bandCount_54 hl (j := 3) (x := (((k : Nat) : Int))) rfl (by decide) rfl fun ls hl => ?_
          have hl : lv_has ls 4 [(3, .int (iZ ((((k + 1) : Nat) : Int)))), (2, .int (iZ ((((t + 0) : Nat) : Int)))), (0, .ref (o)), (1, .int (iZ (((s : Nat) : Int))))] := hl
          refine pb_goto C dX3_bandCount_57 (tgt := 14) (by decide) ?_
          exact pb_V.mono (by omega) (by omega) (ih14 _ (by omega) (k + 1) (t + 0) H rfl hG hM hF (by omega) (by rw [sm, ← ht]; split <;> omega) ls (lv_sub hl [2, 3, 1, 0] rfl))
        · refine pb_ic C dX3_bandCount_47 ?_
          refine pb_goto C dX3_bandCount_48 (tgt := 52) (by decide) ?_
          refine pb_iadd C dX3_bandCount_52 ?_
          refine pb_istore_n C dX3_bandCount_53 rfl hl (by decide) rfl fun ls hl => ?_
          have hl : lv_has ls 4 [(2, .int (iZ ((((t + 1) : Nat) : Int)))), (0, .ref (o)), (1, .int (iZ (((s : Nat) : Int)))), (3, .int (iZ (((k : Nat) : Int))))] := hl
          refine pb_iinc C dX3_bandCount_54 hl (j := 3) (x := (((k : Nat) : Int))) rfl (by decide) rfl fun ls hl => ?_
          have hl : lv_has ls 4 [(3, .int (iZ ((((k + 1) : Nat) : Int)))), (2, .int (iZ ((((t + 1) : Nat) : Int)))), (0, .ref (o)), (1, .int (iZ (((s : Nat) : Int))))] := hl
          refine pb_goto C dX3_bandCount_57 (tgt := 14) (by decide) ?_
          exact pb_V.mono (by omega) (by omega) (ih14 _ (by omega) (k + 1) (t + 1) H rfl hG hM hF (by omega) (by rw [sm, ← ht]; split <;> omega) ls (lv_sub hl [2, 3, 1, 0] rfl))
  refine pb_aload_n C dX3_bandCount_0 rfl (lv_at hl 0 rfl) ?_
  refine pb_iload_n C dX3_bandCount_1 rfl (lv_at hl 1 rfl) ?_
  refine pb_go_i (bc' := 0) (bs' := 0) (pb_runV (rest := []) C hG (met_X3_looks l o S hM s hs) hO.r (ci := 2) rfl (lw_V q1937 q1939 qs40 q60 q1940) ⟨rfl, hdX3_looks⟩ rfl hl.1 rfl (Nat.le_of_ble_eq_true rfl) ⟨(Nat.le_of_ble_eq_true rfl), (Nat.le_of_ble_eq_true rfl)⟩ dX3_bandCount_2) (by omega) (by omega) (fun z_ H_ hp_ => ?_)
  obtain ⟨rfl, hM, hF⟩ := hp_
  have hG := hG.kept (hF.z hz)
  have hO := hM.2.1
  refine pb_if_ne C dX3_bandCount_5 (x := 1) (tgt := 10) (by decide) (by omega) (fun c5_ => ?_) (fun c5_ => ?_)
  · refine pb_ic C dX3_bandCount_10 ?_
    refine pb_istore_n C dX3_bandCount_11 rfl hl (by decide) rfl fun ls hl => ?_
    have hl : lv_has ls 4 [(2, .int (iZ (0))), (0, .ref (o)), (1, .int (iZ (((s : Nat) : Int))))] := hl
    refine pb_ic C dX3_bandCount_12 ?_
    refine pb_istore_n C dX3_bandCount_13 rfl hl (by decide) rfl fun ls hl => ?_
    have hl : lv_has ls 4 [(3, .int (iZ (0))), (2, .int (iZ (0))), (0, .ref (o)), (1, .int (iZ (((s : Nat) : Int))))] := hl
    exact pb_V.mono (by omega) (by omega) (L14 _ 0 0 H_ rfl hG hM hF (by omega) rfl ls (lv_sub hl [2, 3, 1, 0] rfl))
  · exact absurd c5_ (by decide)

set_option maxHeartbeats 1000000 in
theorem met_X3_bandCount_1 {w : pb_W} (l : Launch) {H0 : Heap} (o : Nat) (S : mS) (hM : MW w H0 o S) (s : Int) (hsr : -2147483648 ≤ s ∧ s ≤ 2147483647) (hs : ¬ (0 ≤ s ∧ s ≤ 7)) : pb_M w l yX3_bandCount cX3_bandCount 4 (some .int) 5 (0) (0) [.ref (o), .int (iZ (s))] H0 (pb_qi (fun z H1 => z = 0 ∧ MW w H1 o (mI S 0 1) ∧ mF o H0 H1)) := by
  refine pb_of (by decide +kernel) (Nat.le_of_ble_eq_true rfl) ?_
  intro p_ e_ s_ m_ ar_ bl_ me_ co_ ls C hh hG hl
  have hl : lv_has ls 4 [(0, .ref (o)), (1, .int (iZ (s)))] := hl
  have hM0 := hM; obtain ⟨hz, hO, hA1, hA2, hA3, hA4, hA5, hA6, hA7, hA8, hA9, hA10, hA11, hA12⟩ := hM0
  have hF : mF o H0 H0 := mF.rf
  refine pb_aload_n C dX3_bandCount_0 rfl (lv_at hl 0 rfl) ?_
  refine pb_iload_n C dX3_bandCount_1 rfl (lv_at hl 1 rfl) ?_
  refine pb_go_i (bc' := 0) (bs' := 0) (pb_runV (rest := []) C hG (met_X3_looks_1 l o S hM s hsr hs) hO.r (ci := 2) rfl (lw_V q1937 q1939 qs40 q60 q1940) ⟨rfl, hdX3_looks⟩ rfl hl.1 rfl (Nat.le_of_ble_eq_true rfl) ⟨(Nat.le_of_ble_eq_true rfl), (Nat.le_of_ble_eq_true rfl)⟩ dX3_bandCount_2) (by omega) (by omega) (fun z_ H_ hp_ => ?_)
  obtain ⟨rfl, hM, hF⟩ := hp_
  refine pb_if_ne C dX3_bandCount_5 (x := 0) (tgt := 10) (by decide) (by omega) (fun c5_ => ?_) (fun c5_ => ?_)
  · exact absurd c5_ (by decide)
  · refine pb_ic C dX3_bandCount_8 ?_
    exact pb_iret C dX3_bandCount_9 (⟨_, rfl, rfl, hM, hF⟩)

set_option maxHeartbeats 1000000 in
theorem met_X3_rectangleCount {w : pb_W} (l : Launch) {H0 : Heap} (o : Nat) (S : mS) (hM : MW w H0 o S) (s : Nat) (hs : s < 8) (hb : mok S) : pb_M w l yX3_rectangleCount cX3_rectangleCount 5 (some .int) 5 (0) (0) [.ref (o), .int (iZ (((s : Nat) : Int)))] H0 (pb_qi (fun z H1 => z = ((rectV (mg S s) : Nat) : Int) ∧ MW w H1 o (mI S 0 0) ∧ mF o H0 H1)) := by
  refine pb_of (by decide +kernel) (Nat.le_of_ble_eq_true rfl) ?_
  intro p_ e_ s_ m_ ar_ bl_ me_ co_ ls C hh hG hl
  have hl : lv_has ls 5 [(0, .ref (o)), (1, .int (iZ (((s : Nat) : Int))))] := hl
  have hM0 := hM; obtain ⟨hz, hO, hA1, hA2, hA3, hA4, hA5, hA6, hA7, hA8, hA9, hA10, hA11, hA12⟩ := hM0
  have hF : mF o H0 H0 := mF.rf
  have L14 : ∀ (n_ : Nat) (k t : Nat) (H : Heap), 24 - k = n_ → (pb_G w s_ H) → (MW w H o (mI S 0 0)) → (mF o H0 H) → (k ≤ 24) → (t = sm (fun y => if (mg S s) y = gr (mg S s) ((y : Int) - 1) then 0 else pop 32 (pb_dif ((mg S s) y) ((mg S s) y <<< 1))) k) → ∀ (ls : Array Slot), lv_has ls 5 [(0, .ref (o)), (1, .int (iZ (((s : Nat) : Int)))), (2, .int (iZ (((t : Nat) : Int)))), (3, .int (iZ (((k : Nat) : Int))))] → pb_V w.2.2.2 p_ l e_ (pb_rm 5 (0) (0)) s_ m_ ar_ bl_ me_ co_ H (0) (0) (pb_E w bl_ ar_ s_ (0) (0) (pb_qi (fun z H1 => z = ((rectV (mg S s) : Nat) : Int) ∧ MW w H1 o (mI S 0 0) ∧ mF o H0 H1))) (F0 m_ 14 ls []) := by
    intro n_
    induction n_ using Nat.strongRecOn with
    | _ n_ ih14 =>
    intro k t H hm_ hG hM hF hk ht ls hl
    have hM0 := hM; obtain ⟨hz, hO, hA1, hA2, hA3, hA4, hA5, hA6, hA7, hA8, hA9, hA10, hA11, hA12⟩ := hM0
    have hO : pb_O w H o 2 [.int (iZ ((0))), .int (iZ ((S.1 1))), .ref (o + 1), .ref (o + 2), .ref (o + 3), .ref (o + 4), .ref (o + 5), .ref (o + 6), .ref (o + 7), .ref (o + 8), .ref (o + 9), .ref (o + 10), .ref (o + 11), .ref (o + 12), .int (iZ ((S.1 2))), .int (iZ ((S.1 3)))] := hO
    have hA1 : pb_A w H (o + 1) 0 192 (pb_nf (S.2.1 0)) := hA1
    have hA2 : pb_A w H (o + 2) 0 24 (pb_nf (S.2.1 1)) := hA2
    have hA3 : pb_A w H (o + 3) 0 26 (pb_nf (S.2.1 2)) := hA3
    have hA4 : pb_A w H (o + 4) 0 26 (pb_nf (S.2.1 3)) := hA4
    have hA5 : pb_A w H (o + 5) 0 40 (pb_zf (S.2.2 0)) := hA5
    have hA6 : pb_A w H (o + 6) 0 40 (pb_zf (S.2.2 1)) := hA6
    have hA7 : pb_A w H (o + 7) 0 576 (pb_zf (S.2.2 2)) := hA7
    have hA8 : pb_A w H (o + 8) 0 1300 (pb_zf (S.2.2 3)) := hA8
    have hA9 : pb_A w H (o + 9) 0 1300 (pb_zf (S.2.2 4)) := hA9
    have hA10 : pb_A w H (o + 10) 0 400 (pb_zf (S.2.2 5)) := hA10
    have hA11 : pb_A w H (o + 11) 0 400 (pb_zf (S.2.2 6)) := hA11
    have hA12 : pb_A w H (o + 12) 0 625 (pb_nf (S.2.1 4)) := hA12
    refine pb_iload_n C dX3_rectangleCount_14 rfl (lv_at hl 3 rfl) ?_
    refine pb_bip C dX3_rectangleCount_15 (by decide) ?_
    refine pb_icmp_ge C dX3_rectangleCount_17 (x := ((k : Nat) : Int)) (y := 24) (tgt := 66) (by decide) (by omega) (by omega) (fun c17_ => ?_) (fun c17_ => ?_)
    · refine pb_iload_n C dX3_rectangleCount_66 rfl (lv_at hl 2 rfl) ?_
      exact pb_iret C dX3_rectangleCount_67 (⟨_, rfl, by rw [ht, show k = 24 from by omega]; rfl, hM, hF⟩)
    · have hgk := (mg_ok hb hs).1 k
      have hgr := gr_lt (mg_ok hb hs) (((k : Nat) : Int) - 1)
      have hsh := shl1_lt hgk
      refine pb_aload_n C dX3_rectangleCount_20 rfl (lv_at hl 0 rfl) ?_
      refine pb_iload_n C dX3_rectangleCount_21 rfl (lv_at hl 1 rfl) ?_
      refine pb_iload_n C dX3_rectangleCount_22 rfl (lv_at hl 3 rfl) ?_
      refine pb_go_x (bc' := 0) (bs' := 0) (pb_runV (rest := []) C hG (met_X3_row l o (mI S 0 0) hM s (by omega) (((k : Nat) : Int)) (by omega)) hO.r (ci := 2) rfl (lw_V q1807 q1809 qs28 q60 q1810) ⟨rfl, hdX3_row⟩ rfl hl.1 rfl (Nat.le_of_ble_eq_true rfl) ⟨(Nat.le_of_ble_eq_true rfl), (Nat.le_of_ble_eq_true rfl)⟩ dX3_rectangleCount_23) (by omega) (by omega) ?_
      refine pb_eq (g2 := F0 m_ 26 ls [.int (iZ (((((mg S s) k) : Nat) : Int)))]) (congrArg (fun z9 => F0 m_ 26 ls [.int (iZ z9)]) (show (((gr (mg (mI S 0 0) s) (((k : Nat) : Int))) : Nat) : Int) = ((((mg S s) k) : Nat) : Int) from congrArg (fun n : Nat => (n : Int)) (gr_nat (mg S s) k))) ?_
      refine pb_istore C dX3_rectangleCount_26 hl (by decide) rfl fun ls hl => ?_
      have hl : lv_has ls 5 [(4, .int (iZ (((((mg S s) k) : Nat) : Int)))), (0, .ref (o)), (1, .int (iZ (((s : Nat) : Int)))), (2, .int (iZ (((t : Nat) : Int)))), (3, .int (iZ (((k : Nat) : Int))))] := hl
      refine pb_iload_n C dX3_rectangleCount_28 rfl (lv_at hl 3 rfl) ?_
      refine pb_iload C dX3_rectangleCount_29 (lv_at hl 0 rfl) ?_
      refine pb_aload_n C dX3_rectangleCount_31 rfl (lv_at hl 1 rfl) ?_
      refine pb_iload_n C dX3_rectangleCount_32 rfl (lv_at hl 2 rfl) ?_
      refine pb_iload_n C dX3_rectangleCount_33 rfl (lv_at hl 4 rfl) ?_
      refine pb_ic C dX3_rectangleCount_34 ?_
      refine pb_isub C dX3_rectangleCount_35 ?_
      refine pb_go_x (bc' := 0) (bs' := 0) (pb_runV (rest := [.int (iZ (((((mg S s) k) : Nat) : Int))), .int (iZ (((t : Nat) : Int)))]) C hG (met_X3_row l o (mI S 0 0) hM s (by omega) ((((k : Nat) : Int) - 1)) (by omega)) hO.r (ci := 2) rfl (lw_V q1807 q1809 qs28 q60 q1810) ⟨rfl, hdX3_row⟩ rfl hl.1 rfl (Nat.le_of_ble_eq_true rfl) ⟨(Nat.le_of_ble_eq_true rfl), (Nat.le_of_ble_eq_true rfl)⟩ dX3_rectangleCount_36) (by omega) (by omega) ?_
      refine pb_eq (g2 := F0 m_ 39 ls [.int (iZ ((((gr (mg S s) (((k : Nat) : Int) - 1)) : Nat) : Int))), .int (iZ (((((mg S s) k) : Nat) : Int))), .int (iZ (((t : Nat) : Int)))]) (congrArg (fun z9 => F0 m_ 39 ls [.int (iZ z9), .int (iZ (((((mg S s) k) : Nat) : Int))), .int (iZ (((t : Nat) : Int)))]) (show (((gr (mg (mI S 0 0) s) ((((k : Nat) : Int) - 1))) : Nat) : Int) = (((gr (mg S s) (((k : Nat) : Int) - 1)) : Nat) : Int) from rfl)) ?_
      refine pb_icmp_ne C dX3_rectangleCount_39 (x := ((((mg S s) k) : Nat) : Int)) (y := (((gr (mg S s) (((k : Nat) : Int) - 1)) : Nat) : Int)) (tgt := 46) (by decide) (by omega) (by omega) (fun c39_ => ?_) (fun c39_ => ?_)
      · refine pb_iload C dX3_rectangleCount_46 (lv_at hl 0 rfl) ?_
        refine pb_iload C dX3_rectangleCount_48 (lv_at hl 0 rfl) ?_
        refine pb_ic C dX3_rectangleCount_50 ?_
        refine pb_ishl C dX3_rectangleCount_51 (x := ((mg S s) k)) (y := 1) (by omega) ?_
        refine pb_ic C dX3_rectangleCount_52 ?_
        refine pb_inot C dX3_rectangleCount_53 (x := (((((mg S s) k) <<< 1) : Nat) : Int)) ?_
        refine pb_iandn C dX3_rectangleCount_54 (x := ((mg S s) k)) (y := (((mg S s) k) <<< 1)) ?_
        refine pb_go_x (bc' := 0) (bs' := 0) (pb_runS (rest := [.int (iZ (((t : Nat) : Int)))]) C hG (met_X3_bits l ((pb_dif ((mg S s) k) ((mg S s) k <<< 1))) (dif_lt31 (by omega))) (lw_S q1811 q1812 q60 q1813) hdX3_bits rfl hl.1 rfl (Nat.le_of_ble_eq_true rfl) ⟨(Nat.le_of_ble_eq_true rfl), (Nat.le_of_ble_eq_true rfl)⟩ dX3_rectangleCount_55) (by omega) (by omega) ?_
        refine pb_iadd C dX3_rectangleCount_58 ?_
        refine pb_istore_n C dX3_rectangleCount_59 rfl hl (by decide) rfl fun ls hl => ?_
        have hl : lv_has ls 5 [(2, .int (iZ ((((t + (pop 32 ((pb_dif ((mg S s) k) ((mg S s) k <<< 1))))) : Nat) : Int)))), (4, .int (iZ (((((mg S s) k) : Nat) : Int)))), (0, .ref (o)), (1, .int (iZ (((s : Nat) : Int)))), (3, .int (iZ (((k : Nat) : Int))))] := hl
        refine pb_iinc C dX3_rectangleCount_60 hl (j := 4) (x := (((k : Nat) : Int))) rfl (by decide) rfl fun ls hl => ?_
        have hl : lv_has ls 5 [(3, .int (iZ ((((k + 1) : Nat) : Int)))), (2, .int (iZ ((((t + (pop 32 ((pb_dif ((mg S s) k) ((mg S s) k <<< 1))))) : Nat) : Int)))), (4, .int (iZ (((((mg S s) k) : Nat) : Int)))), (0, .ref (o)), (1, .int (iZ (((s : Nat) : Int))))] := hl
        refine pb_goto C dX3_rectangleCount_63 (tgt := 14) (by decide) ?_
        exact pb_V.mono (by omega) (by omega) (ih14 _ (by omega) (k + 1) (t + (pop 32 ((pb_dif ((mg S s) k) ((mg S s) k <<< 1))))) H rfl hG hM hF (by omega) (by rw [sm, ← ht]; split <;> omega) ls (lv_sub hl [3, 4, 1, 0] rfl))
      · refine pb_ic C dX3_rectangleCount_42 ?_
        refine pb_goto C dX3_rectangleCount_43 (tgt := 58) (by decide) ?_
        refine pb_iadd C dX3_rectangleCount_58 ?_
        refine pb_istore_n C dX3_rectangleCount_59 rfl hl (by decide) rfl fun ls hl => ?_
        have hl : lv_has ls 5 [(2, .int (iZ ((((t + 0) : Nat) : Int)))), (4, .int (iZ (((((mg S s) k) : Nat) : Int)))), (0, .ref (o)), (1, .int (iZ (((s : Nat) : Int)))), (3, .int (iZ (((k : Nat) : Int))))] := hl
        refine pb_iinc C dX3_rectangleCount_60 hl (j := 4) (x := (((k : Nat) : Int))) rfl (by decide) rfl fun ls hl => ?_
        have hl : lv_has ls 5 [(3, .int (iZ ((((k + 1) : Nat) : Int)))), (2, .int (iZ ((((t + 0) : Nat) : Int)))), (4, .int (iZ (((((mg S s) k) : Nat) : Int)))), (0, .ref (o)), (1, .int (iZ (((s : Nat) : Int))))] := hl
        refine pb_goto C dX3_rectangleCount_63 (tgt := 14) (by decide) ?_
        exact pb_V.mono (by omega) (by omega) (ih14 _ (by omega) (k + 1) (t + 0) H rfl hG hM hF (by omega) (by rw [sm, ← ht]; split <;> omega) ls (lv_sub hl [3, 4, 1, 0] rfl))
  refine pb_aload_n C dX3_rectangleCount_0 rfl (lv_at hl 0 rfl) ?_
  refine pb_iload_n C dX3_rectangleCount_1 rfl (lv_at hl 1 rfl) ?_
  refine pb_go_i (bc' := 0) (bs' := 0) (pb_runV (rest := []) C hG (met_X3_looks l o S hM s hs) hO.r (ci := 2) rfl (lw_V q1937 q1939 qs40 q60 q1940) ⟨rfl, hdX3_looks⟩ rfl hl.1 rfl (Nat.le_of_ble_eq_true rfl) ⟨(Nat.le_of_ble_eq_true rfl), (Nat.le_of_ble_eq_true rfl)⟩ dX3_rectangleCount_2) (by omega) (by omega) (fun z_ H_ hp_ => ?_)
  obtain ⟨rfl, hM, hF⟩ := hp_
  have hG := hG.kept (hF.z hz)
  have hO := hM.2.1
  refine pb_if_ne C dX3_rectangleCount_5 (x := 1) (tgt := 10) (by decide) (by omega) (fun c5_ => ?_) (fun c5_ => ?_)
  · refine pb_ic C dX3_rectangleCount_10 ?_
    refine pb_istore_n C dX3_rectangleCount_11 rfl hl (by decide) rfl fun ls hl => ?_
    have hl : lv_has ls 5 [(2, .int (iZ (0))), (0, .ref (o)), (1, .int (iZ (((s : Nat) : Int))))] := hl
    refine pb_ic C dX3_rectangleCount_12 ?_
    refine pb_istore_n C dX3_rectangleCount_13 rfl hl (by decide) rfl fun ls hl => ?_
    have hl : lv_has ls 5 [(3, .int (iZ (0))), (2, .int (iZ (0))), (0, .ref (o)), (1, .int (iZ (((s : Nat) : Int))))] := hl
    exact pb_V.mono (by omega) (by omega) (L14 _ 0 0 H_ rfl hG hM hF (by omega) rfl ls (lv_sub hl [2, 3, 1, 0] rfl))
  · exact absurd c5_ (by decide)

set_option maxHeartbeats 1000000 in
theorem met_X3_rectangleCount_1 {w : pb_W} (l : Launch) {H0 : Heap} (o : Nat) (S : mS) (hM : MW w H0 o S) (s : Int) (hsr : -2147483648 ≤ s ∧ s ≤ 2147483647) (hs : ¬ (0 ≤ s ∧ s ≤ 7)) : pb_M w l yX3_rectangleCount cX3_rectangleCount 5 (some .int) 5 (0) (0) [.ref (o), .int (iZ (s))] H0 (pb_qi (fun z H1 => z = 0 ∧ MW w H1 o (mI S 0 1) ∧ mF o H0 H1)) := by
  refine pb_of (by decide +kernel) (Nat.le_of_ble_eq_true rfl) ?_
  intro p_ e_ s_ m_ ar_ bl_ me_ co_ ls C hh hG hl
  have hl : lv_has ls 5 [(0, .ref (o)), (1, .int (iZ (s)))] := hl
  have hM0 := hM; obtain ⟨hz, hO, hA1, hA2, hA3, hA4, hA5, hA6, hA7, hA8, hA9, hA10, hA11, hA12⟩ := hM0
  have hF : mF o H0 H0 := mF.rf
  refine pb_aload_n C dX3_rectangleCount_0 rfl (lv_at hl 0 rfl) ?_
  refine pb_iload_n C dX3_rectangleCount_1 rfl (lv_at hl 1 rfl) ?_
  refine pb_go_i (bc' := 0) (bs' := 0) (pb_runV (rest := []) C hG (met_X3_looks_1 l o S hM s hsr hs) hO.r (ci := 2) rfl (lw_V q1937 q1939 qs40 q60 q1940) ⟨rfl, hdX3_looks⟩ rfl hl.1 rfl (Nat.le_of_ble_eq_true rfl) ⟨(Nat.le_of_ble_eq_true rfl), (Nat.le_of_ble_eq_true rfl)⟩ dX3_rectangleCount_2) (by omega) (by omega) (fun z_ H_ hp_ => ?_)
  obtain ⟨rfl, hM, hF⟩ := hp_
  refine pb_if_ne C dX3_rectangleCount_5 (x := 0) (tgt := 10) (by decide) (by omega) (fun c5_ => ?_) (fun c5_ => ?_)
  · exact absurd c5_ (by decide)
  · refine pb_ic C dX3_rectangleCount_8 ?_
    exact pb_iret C dX3_rectangleCount_9 (⟨_, rfl, rfl, hM, hF⟩)

set_option maxHeartbeats 1000000 in
theorem met_X3_isSame {w : pb_W} (l : Launch) {H0 : Heap} (o : Nat) (S : mS) (hM : MW w H0 o S) (f g : Nat) (hf : f < 8) (hg : g < 8) (hb : mok S) : pb_M w l yX3_isSame cX3_isSame 5 (some .boolean) 5 (0) (0) [.ref (o), .int (iZ (((f : Nat) : Int))), .int (iZ (((g : Nat) : Int)))] H0 (pb_qi (fun z H1 => z = bI (allB (fun y => decide (mg S f y = mg S g y)) 24) ∧ MW w H1 o (mI S 0 0) ∧ mF o H0 H1)) := by
  refine pb_of (by decide +kernel) (Nat.le_of_ble_eq_true rfl) ?_
  intro p_ e_ s_ m_ ar_ bl_ me_ co_ ls C hh hG hl
  have hl : lv_has ls 5 [(0, .ref (o)), (1, .int (iZ (((f : Nat) : Int)))), (2, .int (iZ (((g : Nat) : Int))))] := hl
  have hM0 := hM; obtain ⟨hz, hO, hA1, hA2, hA3, hA4, hA5, hA6, hA7, hA8, hA9, hA10, hA11, hA12⟩ := hM0
  have hF : mF o H0 H0 := mF.rf
  have L39 : ∀ (n_ : Nat) (k : Nat) (b : Bool) (H : Heap), 24 - k = n_ → (pb_G w s_ H) → (MW w H o (mI S 0 0)) → (mF o H0 H) → (k ≤ 24) → (b = allB (fun y => decide (mg S f y = mg S g y)) k) → ∀ (ls : Array Slot), lv_has ls 5 [(0, .ref (o)), (1, .int (iZ (((f : Nat) : Int)))), (2, .int (iZ (((g : Nat) : Int)))), (3, .int (iZ ((bI (b))))), (4, .int (iZ (((k : Nat) : Int))))] → pb_V w.2.2.2 p_ l e_ (pb_rm 5 (0) (0)) s_ m_ ar_ bl_ me_ co_ H (0) (0) (pb_E w bl_ ar_ s_ (0) (0) (pb_qi (fun z H1 => z = bI (allB (fun y => decide (mg S f y = mg S g y)) 24) ∧ MW w H1 o (mI S 0 0) ∧ mF o H0 H1))) (F0 m_ 39 ls []) := by
    intro n_
    induction n_ using Nat.strongRecOn with
    | _ n_ ih39 =>
    intro k b H hm_ hG hM hF hk hbb ls hl
    have hM0 := hM; obtain ⟨hz, hO, hA1, hA2, hA3, hA4, hA5, hA6, hA7, hA8, hA9, hA10, hA11, hA12⟩ := hM0
    have hO : pb_O w H o 2 [.int (iZ ((0))), .int (iZ ((S.1 1))), .ref (o + 1), .ref (o + 2), .ref (o + 3), .ref (o + 4), .ref (o + 5), .ref (o + 6), .ref (o + 7), .ref (o + 8), .ref (o + 9), .ref (o + 10), .ref (o + 11), .ref (o + 12), .int (iZ ((S.1 2))), .int (iZ ((S.1 3)))] := hO
    have hA1 : pb_A w H (o + 1) 0 192 (pb_nf (S.2.1 0)) := hA1
    have hA2 : pb_A w H (o + 2) 0 24 (pb_nf (S.2.1 1)) := hA2
    have hA3 : pb_A w H (o + 3) 0 26 (pb_nf (S.2.1 2)) := hA3
    have hA4 : pb_A w H (o + 4) 0 26 (pb_nf (S.2.1 3)) := hA4
    have hA5 : pb_A w H (o + 5) 0 40 (pb_zf (S.2.2 0)) := hA5
    have hA6 : pb_A w H (o + 6) 0 40 (pb_zf (S.2.2 1)) := hA6
    have hA7 : pb_A w H (o + 7) 0 576 (pb_zf (S.2.2 2)) := hA7
    have hA8 : pb_A w H (o + 8) 0 1300 (pb_zf (S.2.2 3)) := hA8
    have hA9 : pb_A w H (o + 9) 0 1300 (pb_zf (S.2.2 4)) := hA9
    have hA10 : pb_A w H (o + 10) 0 400 (pb_zf (S.2.2 5)) := hA10
    have hA11 : pb_A w H (o + 11) 0 400 (pb_zf (S.2.2 6)) := hA11
    have hA12 : pb_A w H (o + 12) 0 625 (pb_nf (S.2.1 4)) := hA12
    refine pb_iload C dX3_isSame_39 (lv_at hl 4 rfl) ?_
    refine pb_bip C dX3_isSame_41 (by decide) ?_
    refine pb_icmp_ge C dX3_isSame_43 (x := ((k : Nat) : Int)) (y := 24) (tgt := 79) (by decide) (by omega) (by omega) (fun c43_ => ?_) (fun c43_ => ?_)
    · refine pb_iload_n C dX3_isSame_79 rfl (lv_at hl 3 rfl) ?_
      exact pb_zret C dX3_isSame_80 (pb_nar (b)) (⟨_, rfl, congrArg bI (by first | (rw [hbb, show k = 24 from by omega]; done) | (rw [allB_f (hbb.symm.trans c47_) hk]; exact c47_)), hM, hF⟩)
    · refine pb_iload_n C dX3_isSame_46 rfl (lv_at hl 3 rfl) ?_
      refine pb_ifB_eq C dX3_isSame_47 (tgt := 79) (by decide) (fun c47_ => ?_) (fun c47_ => ?_)
      · refine pb_iload_n C dX3_isSame_79 rfl (lv_at hl 3 rfl) ?_
        exact pb_zret C dX3_isSame_80 (pb_nar (b)) (⟨_, rfl, congrArg bI (by first | (rw [hbb, show k = 24 from by omega]; done) | (rw [allB_f (hbb.symm.trans c47_) hk]; exact c47_)), hM, hF⟩)
      · have hgf := (mg_ok hb hf).1 k
        have hgg := (mg_ok hb hg).1 k
        have hdd := dif_lt24 (b := mg S f k) hgg
        refine pb_aload_n C dX3_isSame_50 rfl (lv_at hl 0 rfl) ?_
        refine pb_iload_n C dX3_isSame_51 rfl (lv_at hl 1 rfl) ?_
        refine pb_iload C dX3_isSame_52 (lv_at hl 4 rfl) ?_
        refine pb_go_x (bc' := 0) (bs' := 0) (pb_runV (rest := []) C hG (met_X3_row l o (mI S 0 0) hM f (by omega) ((k : Nat) : Int) (by omega)) hO.r (ci := 2) rfl (lw_V q1807 q1809 qs28 q60 q1810) ⟨rfl, hdX3_row⟩ rfl hl.1 rfl (Nat.le_of_ble_eq_true rfl) ⟨(Nat.le_of_ble_eq_true rfl), (Nat.le_of_ble_eq_true rfl)⟩ dX3_isSame_54) (by omega) (by omega) ?_
        refine pb_eq (g2 := F0 m_ 57 ls [.int (iZ ((((mg S f k) : Nat) : Int)))]) (congrArg (fun z9 => F0 m_ 57 ls [.int (iZ z9)]) (show (((gr (mg (mI S 0 0) f) ((k : Nat) : Int)) : Nat) : Int) = (((mg S f k) : Nat) : Int) from congrArg (fun n : Nat => (n : Int)) (gr_nat (mg S f) k))) ?_
        refine pb_aload_n C dX3_isSame_57 rfl (lv_at hl 0 rfl) ?_
        refine pb_iload_n C dX3_isSame_58 rfl (lv_at hl 2 rfl) ?_
        refine pb_iload C dX3_isSame_59 (lv_at hl 4 rfl) ?_
        refine pb_go_x (bc' := 0) (bs' := 0) (pb_runV (rest := [.int (iZ ((((mg S f k) : Nat) : Int)))]) C hG (met_X3_row l o (mI S 0 0) hM g (by omega) ((k : Nat) : Int) (by omega)) hO.r (ci := 2) rfl (lw_V q1807 q1809 qs28 q60 q1810) ⟨rfl, hdX3_row⟩ rfl hl.1 rfl (Nat.le_of_ble_eq_true rfl) ⟨(Nat.le_of_ble_eq_true rfl), (Nat.le_of_ble_eq_true rfl)⟩ dX3_isSame_61) (by omega) (by omega) ?_
        refine pb_eq (g2 := F0 m_ 64 ls [.int (iZ ((((mg S g k) : Nat) : Int))), .int (iZ ((((mg S f k) : Nat) : Int)))]) (congrArg (fun z9 => F0 m_ 64 ls [.int (iZ z9), .int (iZ ((((mg S f k) : Nat) : Int)))]) (show (((gr (mg (mI S 0 0) g) ((k : Nat) : Int)) : Nat) : Int) = (((mg S g k) : Nat) : Int) from congrArg (fun n : Nat => (n : Int)) (gr_nat (mg S g) k))) ?_
        refine pb_icmp_ne C dX3_isSame_64 (x := (((mg S f k) : Nat) : Int)) (y := (((mg S g k) : Nat) : Int)) (tgt := 71) (by decide) (by omega) (by omega) (fun c64_ => ?_) (fun c64_ => ?_)
        · refine pb_ic C dX3_isSame_71 ?_
          refine pb_istore_n C dX3_isSame_72 rfl hl (by decide) rfl fun ls hl => ?_
          have hl : lv_has ls 5 [(3, .int (iZ (0))), (0, .ref (o)), (1, .int (iZ (((f : Nat) : Int)))), (2, .int (iZ (((g : Nat) : Int)))), (4, .int (iZ (((k : Nat) : Int))))] := hl
          refine pb_iinc C dX3_isSame_73 hl (j := 4) (x := (((k : Nat) : Int))) rfl (by decide) rfl fun ls hl => ?_
          have hl : lv_has ls 5 [(4, .int (iZ ((((k + 1) : Nat) : Int)))), (3, .int (iZ (0))), (0, .ref (o)), (1, .int (iZ (((f : Nat) : Int)))), (2, .int (iZ (((g : Nat) : Int))))] := hl
          refine pb_goto C dX3_isSame_76 (tgt := 39) (by decide) ?_
          exact pb_V.mono (by omega) (by omega) (ih39 _ (by omega) (k + 1) false H rfl hG hM hF (by omega) (by rw [allB, ← hbb, c47_, Bool.true_and]; first | exact (decide_eq_true (by omega)).symm | exact (decide_eq_false (by omega)).symm) ls (lv_sub hl [2, 3, 4, 1, 0] rfl))
        · refine pb_ic C dX3_isSame_67 ?_
          refine pb_goto C dX3_isSame_68 (tgt := 72) (by decide) ?_
          refine pb_istore_n C dX3_isSame_72 rfl hl (by decide) rfl fun ls hl => ?_
          have hl : lv_has ls 5 [(3, .int (iZ (1))), (0, .ref (o)), (1, .int (iZ (((f : Nat) : Int)))), (2, .int (iZ (((g : Nat) : Int)))), (4, .int (iZ (((k : Nat) : Int))))] := hl
          refine pb_iinc C dX3_isSame_73 hl (j := 4) (x := (((k : Nat) : Int))) rfl (by decide) rfl fun ls hl => ?_
          have hl : lv_has ls 5 [(4, .int (iZ ((((k + 1) : Nat) : Int)))), (3, .int (iZ (1))), (0, .ref (o)), (1, .int (iZ (((f : Nat) : Int)))), (2, .int (iZ (((g : Nat) : Int))))] := hl
          refine pb_goto C dX3_isSame_76 (tgt := 39) (by decide) ?_
          exact pb_V.mono (by omega) (by omega) (ih39 _ (by omega) (k + 1) true H rfl hG hM hF (by omega) (by rw [allB, ← hbb, c47_, Bool.true_and]; first | exact (decide_eq_true (by omega)).symm | exact (decide_eq_false (by omega)).symm) ls (lv_sub hl [2, 3, 4, 1, 0] rfl))
  refine pb_aload_n C dX3_isSame_0 rfl (lv_at hl 0 rfl) ?_
  refine pb_iload_n C dX3_isSame_1 rfl (lv_at hl 1 rfl) ?_
  refine pb_go_x (bc' := 0) (bs' := 0) (pb_runS (rest := [.ref (o)]) C hG (met_X3_isSheet l (((f : Nat) : Int)) (by omega)) (lw_S q1794 q1795 q60 q1796) hdX3_isSheet rfl hl.1 rfl (Nat.le_of_ble_eq_true rfl) ⟨(Nat.le_of_ble_eq_true rfl), (Nat.le_of_ble_eq_true rfl)⟩ dX3_isSame_2) (by omega) (by omega) ?_
  refine pb_ifB_eq C dX3_isSame_5 (tgt := 15) (by decide) (fun c5_ => ?_) (fun c5_ => ?_)
  · have c5_ := of_decide_eq_false c5_
    omega
  · have c5_ := of_decide_eq_true c5_
    refine pb_iload_n C dX3_isSame_8 rfl (lv_at hl 2 rfl) ?_
    refine pb_go_x (bc' := 0) (bs' := 0) (pb_runS (rest := [.ref (o)]) C hG (met_X3_isSheet l (((g : Nat) : Int)) (by omega)) (lw_S q1794 q1795 q60 q1796) hdX3_isSheet rfl hl.1 rfl (Nat.le_of_ble_eq_true rfl) ⟨(Nat.le_of_ble_eq_true rfl), (Nat.le_of_ble_eq_true rfl)⟩ dX3_isSame_9) (by omega) (by omega) ?_
    refine pb_ifB_ne C dX3_isSame_12 (tgt := 19) (by decide) (fun c12_ => ?_) (fun c12_ => ?_)
    · have c12_ := of_decide_eq_true c12_
      refine pb_ic C dX3_isSame_19 ?_
      refine pb_put C in_X3 tyX3 tyX3_ok nmX3 hO (ci := 2) rfl 0 (by decide) q1737 (fun _ h9 => h9) rfl (v := .int (iZ (0))) rfl rfl (Nat.le_of_ble_eq_true rfl) (by omega) dX3_isSame_20 fun H1_ hu_ hO => ?_
      have hO : pb_O w H1_ (o) 2 [.int (iZ (0)), .int (iZ ((S.1 1))), .ref (o + 1), .ref (o + 2), .ref (o + 3), .ref (o + 4), .ref (o + 5), .ref (o + 6), .ref (o + 7), .ref (o + 8), .ref (o + 9), .ref (o + 10), .ref (o + 11), .ref (o + 12), .int (iZ ((S.1 2))), .int (iZ ((S.1 3)))] := hO
      have hG := hG.kept (hu_.z (by omega))
      have hA1 := hA1.kept (hu_.2 _ (by omega))
      have hA2 := hA2.kept (hu_.2 _ (by omega))
      have hA3 := hA3.kept (hu_.2 _ (by omega))
      have hA4 := hA4.kept (hu_.2 _ (by omega))
      have hA5 := hA5.kept (hu_.2 _ (by omega))
      have hA6 := hA6.kept (hu_.2 _ (by omega))
      have hA7 := hA7.kept (hu_.2 _ (by omega))
      have hA8 := hA8.kept (hu_.2 _ (by omega))
      have hA9 := hA9.kept (hu_.2 _ (by omega))
      have hA10 := hA10.kept (hu_.2 _ (by omega))
      have hA11 := hA11.kept (hu_.2 _ (by omega))
      have hA12 := hA12.kept (hu_.2 _ (by omega))
      have hF := hF.up hu_ (by omega)
      refine pb_aload_n C dX3_isSame_23 rfl (lv_at hl 0 rfl) ?_
      refine pb_get C in_X3 hO.r (ci := 2) rfl 0 (by decide) q1737 (fun _ h9 => h9) (v := .int (iZ (0))) rfl dX3_isSame_24 ?_
      refine pb_if_ne C dX3_isSame_27 (x := 0) (tgt := 34) (by decide) (by omega) (fun c27_ => ?_) (fun c27_ => ?_)
      · exact absurd c27_ (by decide)
      · refine pb_ic C dX3_isSame_30 ?_
        refine pb_goto C dX3_isSame_31 (tgt := 35) (by decide) ?_
        refine pb_istore_n C dX3_isSame_35 rfl hl (by decide) rfl fun ls hl => ?_
        have hl : lv_has ls 5 [(3, .int (iZ (1))), (0, .ref (o)), (1, .int (iZ (((f : Nat) : Int)))), (2, .int (iZ (((g : Nat) : Int))))] := hl
        refine pb_ic C dX3_isSame_36 ?_
        refine pb_istore C dX3_isSame_37 hl (by decide) rfl fun ls hl => ?_
        have hl : lv_has ls 5 [(4, .int (iZ (0))), (3, .int (iZ (1))), (0, .ref (o)), (1, .int (iZ (((f : Nat) : Int)))), (2, .int (iZ (((g : Nat) : Int))))] := hl
        exact pb_V.mono (by omega) (by omega) (L39 _ 0 true H1_ rfl hG ⟨hz, hO, hA1, hA2, hA3, hA4, hA5, hA6, hA7, hA8, hA9, hA10, hA11, hA12⟩ hF (by omega) rfl ls (lv_sub hl [2, 3, 4, 1, 0] rfl))
    · have c12_ := of_decide_eq_false c12_
      omega

set_option maxHeartbeats 1000000 in
theorem met_X3_isSame_1 {w : pb_W} (l : Launch) {H0 : Heap} (o : Nat) (S : mS) (hM : MW w H0 o S) (f g : Int) (hfr : -2147483648 ≤ f ∧ f ≤ 2147483647) (hgr : -2147483648 ≤ g ∧ g ≤ 2147483647) (hn : ¬ ((0 ≤ f ∧ f ≤ 7) ∧ 0 ≤ g ∧ g ≤ 7)) : pb_M w l yX3_isSame cX3_isSame 5 (some .boolean) 5 (0) (0) [.ref (o), .int (iZ (f)), .int (iZ (g))] H0 (pb_qi (fun z H1 => z = 0 ∧ MW w H1 o (mI S 0 1) ∧ mF o H0 H1)) := by
  refine pb_of (by decide +kernel) (Nat.le_of_ble_eq_true rfl) ?_
  intro p_ e_ s_ m_ ar_ bl_ me_ co_ ls C hh hG hl
  have hl : lv_has ls 5 [(0, .ref (o)), (1, .int (iZ (f))), (2, .int (iZ (g)))] := hl
  have hM0 := hM; obtain ⟨hz, hO, hA1, hA2, hA3, hA4, hA5, hA6, hA7, hA8, hA9, hA10, hA11, hA12⟩ := hM0
  have hF : mF o H0 H0 := mF.rf
  refine pb_aload_n C dX3_isSame_0 rfl (lv_at hl 0 rfl) ?_
  refine pb_iload_n C dX3_isSame_1 rfl (lv_at hl 1 rfl) ?_
  refine pb_go_x (bc' := 0) (bs' := 0) (pb_runS (rest := [.ref (o)]) C hG (met_X3_isSheet l f (by omega)) (lw_S q1794 q1795 q60 q1796) hdX3_isSheet rfl hl.1 rfl (Nat.le_of_ble_eq_true rfl) ⟨(Nat.le_of_ble_eq_true rfl), (Nat.le_of_ble_eq_true rfl)⟩ dX3_isSame_2) (by omega) (by omega) ?_
  refine pb_ifB_eq C dX3_isSame_5 (tgt := 15) (by decide) (fun c5_ => ?_) (fun c5_ => ?_)
  · have c5_ := of_decide_eq_false c5_
    refine pb_ic C dX3_isSame_15 ?_
    refine pb_goto C dX3_isSame_16 (tgt := 20) (by decide) ?_
    refine pb_put C in_X3 tyX3 tyX3_ok nmX3 hO (ci := 2) rfl 0 (by decide) q1737 (fun _ h9 => h9) rfl (v := .int (iZ (1))) rfl rfl (Nat.le_of_ble_eq_true rfl) (by omega) dX3_isSame_20 fun H1_ hu_ hO => ?_
    have hO : pb_O w H1_ (o) 2 [.int (iZ (1)), .int (iZ ((S.1 1))), .ref (o + 1), .ref (o + 2), .ref (o + 3), .ref (o + 4), .ref (o + 5), .ref (o + 6), .ref (o + 7), .ref (o + 8), .ref (o + 9), .ref (o + 10), .ref (o + 11), .ref (o + 12), .int (iZ ((S.1 2))), .int (iZ ((S.1 3)))] := hO
    have hG := hG.kept (hu_.z (by omega))
    have hA1 := hA1.kept (hu_.2 _ (by omega))
    have hA2 := hA2.kept (hu_.2 _ (by omega))
    have hA3 := hA3.kept (hu_.2 _ (by omega))
    have hA4 := hA4.kept (hu_.2 _ (by omega))
    have hA5 := hA5.kept (hu_.2 _ (by omega))
    have hA6 := hA6.kept (hu_.2 _ (by omega))
    have hA7 := hA7.kept (hu_.2 _ (by omega))
    have hA8 := hA8.kept (hu_.2 _ (by omega))
    have hA9 := hA9.kept (hu_.2 _ (by omega))
    have hA10 := hA10.kept (hu_.2 _ (by omega))
    have hA11 := hA11.kept (hu_.2 _ (by omega))
    have hA12 := hA12.kept (hu_.2 _ (by omega))
    have hF := hF.up hu_ (by omega)
    refine pb_aload_n C dX3_isSame_23 rfl (lv_at hl 0 rfl) ?_
    refine pb_get C in_X3 hO.r (ci := 2) rfl 0 (by decide) q1737 (fun _ h9 => h9) (v := .int (iZ (1))) rfl dX3_isSame_24 ?_
    refine pb_if_ne C dX3_isSame_27 (x := 1) (tgt := 34) (by decide) (by omega) (fun c27_ => ?_) (fun c27_ => ?_)
    · refine pb_ic C dX3_isSame_34 ?_
      refine pb_istore_n C dX3_isSame_35 rfl hl (by decide) rfl fun ls hl => ?_
      have hl : lv_has ls 5 [(3, .int (iZ (0))), (0, .ref (o)), (1, .int (iZ (f))), (2, .int (iZ (g)))] := hl
      refine pb_ic C dX3_isSame_36 ?_
      refine pb_istore C dX3_isSame_37 hl (by decide) rfl fun ls hl => ?_
      have hl : lv_has ls 5 [(4, .int (iZ (0))), (3, .int (iZ (0))), (0, .ref (o)), (1, .int (iZ (f))), (2, .int (iZ (g)))] := hl
      refine pb_iload C dX3_isSame_39 (lv_at hl 0 rfl) ?_
      refine pb_bip C dX3_isSame_41 (by decide) ?_
      refine pb_icmp_ge C dX3_isSame_43 (x := 0) (y := 24) (tgt := 79) (by decide) (by omega) (by omega) (fun c43_ => ?_) (fun c43_ => ?_)
      · exact absurd c43_ (by decide)
      · refine pb_iload_n C dX3_isSame_46 rfl (lv_at hl 1 rfl) ?_
        refine pb_if_eq C dX3_isSame_47 (x := 0) (tgt := 79) (by decide) (by omega) (fun c47_ => ?_) (fun c47_ => ?_)
        · refine pb_iload_n C dX3_isSame_79 rfl (lv_at hl 1 rfl) ?_
          exact pb_zret C dX3_isSame_80 (by decide +kernel) (⟨_, rfl, rfl, ⟨hz, hO, hA1, hA2, hA3, hA4, hA5, hA6, hA7, hA8, hA9, hA10, hA11, hA12⟩, hF⟩)
        · exact absurd c47_ (by decide)
    · exact absurd c27_ (by decide)
  · have c5_ := of_decide_eq_true c5_
    refine pb_iload_n C dX3_isSame_8 rfl (lv_at hl 2 rfl) ?_
    refine pb_go_x (bc' := 0) (bs' := 0) (pb_runS (rest := [.ref (o)]) C hG (met_X3_isSheet l g (by omega)) (lw_S q1794 q1795 q60 q1796) hdX3_isSheet rfl hl.1 rfl (Nat.le_of_ble_eq_true rfl) ⟨(Nat.le_of_ble_eq_true rfl), (Nat.le_of_ble_eq_true rfl)⟩ dX3_isSame_9) (by omega) (by omega) ?_
    refine pb_ifB_ne C dX3_isSame_12 (tgt := 19) (by decide) (fun c12_ => ?_) (fun c12_ => ?_)
    · have c12_ := of_decide_eq_true c12_
      omega
    · have c12_ := of_decide_eq_false c12_
      refine pb_ic C dX3_isSame_15 ?_
      refine pb_goto C dX3_isSame_16 (tgt := 20) (by decide) ?_
      refine pb_put C in_X3 tyX3 tyX3_ok nmX3 hO (ci := 2) rfl 0 (by decide) q1737 (fun _ h9 => h9) rfl (v := .int (iZ (1))) rfl rfl (Nat.le_of_ble_eq_true rfl) (by omega) dX3_isSame_20 fun H2_ hu_ hO => ?_
      have hO : pb_O w H2_ (o) 2 [.int (iZ (1)), .int (iZ ((S.1 1))), .ref (o + 1), .ref (o + 2), .ref (o + 3), .ref (o + 4), .ref (o + 5), .ref (o + 6), .ref (o + 7), .ref (o + 8), .ref (o + 9), .ref (o + 10), .ref (o + 11), .ref (o + 12), .int (iZ ((S.1 2))), .int (iZ ((S.1 3)))] := hO
      have hG := hG.kept (hu_.z (by omega))
      have hA1 := hA1.kept (hu_.2 _ (by omega))
      have hA2 := hA2.kept (hu_.2 _ (by omega))
      have hA3 := hA3.kept (hu_.2 _ (by omega))
      have hA4 := hA4.kept (hu_.2 _ (by omega))
      have hA5 := hA5.kept (hu_.2 _ (by omega))
      have hA6 := hA6.kept (hu_.2 _ (by omega))
      have hA7 := hA7.kept (hu_.2 _ (by omega))
      have hA8 := hA8.kept (hu_.2 _ (by omega))
      have hA9 := hA9.kept (hu_.2 _ (by omega))
      have hA10 := hA10.kept (hu_.2 _ (by omega))
      have hA11 := hA11.kept (hu_.2 _ (by omega))
      have hA12 := hA12.kept (hu_.2 _ (by omega))
      have hF := hF.up hu_ (by omega)
      refine pb_aload_n C dX3_isSame_23 rfl (lv_at hl 0 rfl) ?_
      refine pb_get C in_X3 hO.r (ci := 2) rfl 0 (by decide) q1737 (fun _ h9 => h9) (v := .int (iZ (1))) rfl dX3_isSame_24 ?_
      refine pb_if_ne C dX3_isSame_27 (x := 1) (tgt := 34) (by decide) (by omega) (fun c27_ => ?_) (fun c27_ => ?_)
      · refine pb_ic C dX3_isSame_34 ?_
        refine pb_istore_n C dX3_isSame_35 rfl hl (by decide) rfl fun ls hl => ?_
        have hl : lv_has ls 5 [(3, .int (iZ (0))), (0, .ref (o)), (1, .int (iZ (f))), (2, .int (iZ (g)))] := hl
        refine pb_ic C dX3_isSame_36 ?_
        refine pb_istore C dX3_isSame_37 hl (by decide) rfl fun ls hl => ?_
        have hl : lv_has ls 5 [(4, .int (iZ (0))), (3, .int (iZ (0))), (0, .ref (o)), (1, .int (iZ (f))), (2, .int (iZ (g)))] := hl
        refine pb_iload C dX3_isSame_39 (lv_at hl 0 rfl) ?_
        refine pb_bip C dX3_isSame_41 (by decide) ?_
        refine pb_icmp_ge C dX3_isSame_43 (x := 0) (y := 24) (tgt := 79) (by decide) (by omega) (by omega) (fun c43_ => ?_) (fun c43_ => ?_)
        · exact absurd c43_ (by decide)
        · refine pb_iload_n C dX3_isSame_46 rfl (lv_at hl 1 rfl) ?_
          refine pb_if_eq C dX3_isSame_47 (x := 0) (tgt := 79) (by decide) (by omega) (fun c47_ => ?_) (fun c47_ => ?_)
          · refine pb_iload_n C dX3_isSame_79 rfl (lv_at hl 1 rfl) ?_
            exact pb_zret C dX3_isSame_80 (by decide +kernel) (⟨_, rfl, rfl, ⟨hz, hO, hA1, hA2, hA3, hA4, hA5, hA6, hA7, hA8, hA9, hA10, hA11, hA12⟩, hF⟩)
          · exact absurd c47_ (by decide)
      · exact absurd c27_ (by decide)

set_option maxHeartbeats 1000000 in
theorem met_X3_covers {w : pb_W} (l : Launch) {H0 : Heap} (o : Nat) (S : mS) (hM : MW w H0 o S) (f g : Nat) (hf : f < 8) (hg : g < 8) (hb : mok S) : pb_M w l yX3_covers cX3_covers 5 (some .boolean) 5 (0) (0) [.ref (o), .int (iZ (((f : Nat) : Int))), .int (iZ (((g : Nat) : Int)))] H0 (pb_qi (fun z H1 => z = bI (allB (fun y => decide (pb_dif (mg S g y) (mg S f y) = 0)) 24) ∧ MW w H1 o (mI S 0 0) ∧ mF o H0 H1)) := by
  refine pb_of (by decide +kernel) (Nat.le_of_ble_eq_true rfl) ?_
  intro p_ e_ s_ m_ ar_ bl_ me_ co_ ls C hh hG hl
  have hl : lv_has ls 5 [(0, .ref (o)), (1, .int (iZ (((f : Nat) : Int)))), (2, .int (iZ (((g : Nat) : Int))))] := hl
  have hM0 := hM; obtain ⟨hz, hO, hA1, hA2, hA3, hA4, hA5, hA6, hA7, hA8, hA9, hA10, hA11, hA12⟩ := hM0
  have hF : mF o H0 H0 := mF.rf
  have L39 : ∀ (n_ : Nat) (k : Nat) (b : Bool) (H : Heap), 24 - k = n_ → (pb_G w s_ H) → (MW w H o (mI S 0 0)) → (mF o H0 H) → (k ≤ 24) → (b = allB (fun y => decide (pb_dif (mg S g y) (mg S f y) = 0)) k) → ∀ (ls : Array Slot), lv_has ls 5 [(0, .ref (o)), (1, .int (iZ (((f : Nat) : Int)))), (2, .int (iZ (((g : Nat) : Int)))), (3, .int (iZ ((bI (b))))), (4, .int (iZ (((k : Nat) : Int))))] → pb_V w.2.2.2 p_ l e_ (pb_rm 5 (0) (0)) s_ m_ ar_ bl_ me_ co_ H (0) (0) (pb_E w bl_ ar_ s_ (0) (0) (pb_qi (fun z H1 => z = bI (allB (fun y => decide (pb_dif (mg S g y) (mg S f y) = 0)) 24) ∧ MW w H1 o (mI S 0 0) ∧ mF o H0 H1))) (F0 m_ 39 ls []) := by
    intro n_
    induction n_ using Nat.strongRecOn with
    | _ n_ ih39 =>
    intro k b H hm_ hG hM hF hk hbb ls hl
    have hM0 := hM; obtain ⟨hz, hO, hA1, hA2, hA3, hA4, hA5, hA6, hA7, hA8, hA9, hA10, hA11, hA12⟩ := hM0
    have hO : pb_O w H o 2 [.int (iZ ((0))), .int (iZ ((S.1 1))), .ref (o + 1), .ref (o + 2), .ref (o + 3), .ref (o + 4), .ref (o + 5), .ref (o + 6), .ref (o + 7), .ref (o + 8), .ref (o + 9), .ref (o + 10), .ref (o + 11), .ref (o + 12), .int (iZ ((S.1 2))), .int (iZ ((S.1 3)))] := hO
    have hA1 : pb_A w H (o + 1) 0 192 (pb_nf (S.2.1 0)) := hA1
    have hA2 : pb_A w H (o + 2) 0 24 (pb_nf (S.2.1 1)) := hA2
    have hA3 : pb_A w H (o + 3) 0 26 (pb_nf (S.2.1 2)) := hA3
    have hA4 : pb_A w H (o + 4) 0 26 (pb_nf (S.2.1 3)) := hA4
    have hA5 : pb_A w H (o + 5) 0 40 (pb_zf (S.2.2 0)) := hA5
    have hA6 : pb_A w H (o + 6) 0 40 (pb_zf (S.2.2 1)) := hA6
    have hA7 : pb_A w H (o + 7) 0 576 (pb_zf (S.2.2 2)) := hA7
    have hA8 : pb_A w H (o + 8) 0 1300 (pb_zf (S.2.2 3)) := hA8
    have hA9 : pb_A w H (o + 9) 0 1300 (pb_zf (S.2.2 4)) := hA9
    have hA10 : pb_A w H (o + 10) 0 400 (pb_zf (S.2.2 5)) := hA10
    have hA11 : pb_A w H (o + 11) 0 400 (pb_zf (S.2.2 6)) := hA11
    have hA12 : pb_A w H (o + 12) 0 625 (pb_nf (S.2.1 4)) := hA12
    refine pb_iload C dX3_covers_39 (lv_at hl 4 rfl) ?_
    refine pb_bip C dX3_covers_41 (by decide) ?_
    refine pb_icmp_ge C dX3_covers_43 (x := ((k : Nat) : Int)) (y := 24) (tgt := 82) (by decide) (by omega) (by omega) (fun c43_ => ?_) (fun c43_ => ?_)
    · refine pb_iload_n C dX3_covers_82 rfl (lv_at hl 3 rfl) ?_
      exact pb_zret C dX3_covers_83 (pb_nar (b)) (⟨_, rfl, congrArg bI (by first | (rw [hbb, show k = 24 from by omega]; done) | (rw [allB_f (hbb.symm.trans c47_) hk]; exact c47_)), hM, hF⟩)
    · refine pb_iload_n C dX3_covers_46 rfl (lv_at hl 3 rfl) ?_
      refine pb_ifB_eq C dX3_covers_47 (tgt := 82) (by decide) (fun c47_ => ?_) (fun c47_ => ?_)
      · refine pb_iload_n C dX3_covers_82 rfl (lv_at hl 3 rfl) ?_
        exact pb_zret C dX3_covers_83 (pb_nar (b)) (⟨_, rfl, congrArg bI (by first | (rw [hbb, show k = 24 from by omega]; done) | (rw [allB_f (hbb.symm.trans c47_) hk]; exact c47_)), hM, hF⟩)
      · have hgf := (mg_ok hb hf).1 k
        have hgg := (mg_ok hb hg).1 k
        have hdd := dif_lt24 (b := mg S f k) hgg
        refine pb_aload_n C dX3_covers_50 rfl (lv_at hl 0 rfl) ?_
        refine pb_iload_n C dX3_covers_51 rfl (lv_at hl 2 rfl) ?_
        refine pb_iload C dX3_covers_52 (lv_at hl 4 rfl) ?_
        refine pb_go_x (bc' := 0) (bs' := 0) (pb_runV (rest := []) C hG (met_X3_row l o (mI S 0 0) hM g (by omega) ((k : Nat) : Int) (by omega)) hO.r (ci := 2) rfl (lw_V q1807 q1809 qs28 q60 q1810) ⟨rfl, hdX3_row⟩ rfl hl.1 rfl (Nat.le_of_ble_eq_true rfl) ⟨(Nat.le_of_ble_eq_true rfl), (Nat.le_of_ble_eq_true rfl)⟩ dX3_covers_54) (by omega) (by omega) ?_
        refine pb_eq (g2 := F0 m_ 57 ls [.int (iZ ((((mg S g k) : Nat) : Int)))]) (congrArg (fun z9 => F0 m_ 57 ls [.int (iZ z9)]) (show (((gr (mg (mI S 0 0) g) ((k : Nat) : Int)) : Nat) : Int) = (((mg S g k) : Nat) : Int) from congrArg (fun n : Nat => (n : Int)) (gr_nat (mg S g) k))) ?_
        refine pb_aload_n C dX3_covers_57 rfl (lv_at hl 0 rfl) ?_
        refine pb_iload_n C dX3_covers_58 rfl (lv_at hl 1 rfl) ?_
        refine pb_iload C dX3_covers_59 (lv_at hl 4 rfl) ?_
        refine pb_go_x (bc' := 0) (bs' := 0) (pb_runV (rest := [.int (iZ ((((mg S g k) : Nat) : Int)))]) C hG (met_X3_row l o (mI S 0 0) hM f (by omega) ((k : Nat) : Int) (by omega)) hO.r (ci := 2) rfl (lw_V q1807 q1809 qs28 q60 q1810) ⟨rfl, hdX3_row⟩ rfl hl.1 rfl (Nat.le_of_ble_eq_true rfl) ⟨(Nat.le_of_ble_eq_true rfl), (Nat.le_of_ble_eq_true rfl)⟩ dX3_covers_61) (by omega) (by omega) ?_
        refine pb_eq (g2 := F0 m_ 64 ls [.int (iZ ((((mg S f k) : Nat) : Int))), .int (iZ ((((mg S g k) : Nat) : Int)))]) (congrArg (fun z9 => F0 m_ 64 ls [.int (iZ z9), .int (iZ ((((mg S g k) : Nat) : Int)))]) (show (((gr (mg (mI S 0 0) f) ((k : Nat) : Int)) : Nat) : Int) = (((mg S f k) : Nat) : Int) from congrArg (fun n : Nat => (n : Int)) (gr_nat (mg S f) k))) ?_
        refine pb_ic C dX3_covers_64 ?_
        refine pb_inot C dX3_covers_65 (x := (((mg S f k) : Nat) : Int)) ?_
        refine pb_iandn C dX3_covers_66 (x := (mg S g k)) (y := (mg S f k)) ?_
        refine pb_if_ne C dX3_covers_67 (x := (((pb_dif ((mg S g k)) ((mg S f k))) : Nat) : Int)) (tgt := 74) (by decide) (by omega) (fun c67_ => ?_) (fun c67_ => ?_)
        · refine pb_ic C dX3_covers_74 ?_
          refine pb_istore_n C dX3_covers_75 rfl hl (by decide) rfl fun ls hl => ?_
          have hl : lv_has ls 5 [(3, .int (iZ (0))), (0, .ref (o)), (1, .int (iZ (((f : Nat) : Int)))), (2, .int (iZ (((g : Nat) : Int)))), (4, .int (iZ (((k : Nat) : Int))))] := hl
          refine pb_iinc C dX3_covers_76 hl (j := 4) (x := (((k : Nat) : Int))) rfl (by decide) rfl fun ls hl => ?_
          have hl : lv_has ls 5 [(4, .int (iZ ((((k + 1) : Nat) : Int)))), (3, .int (iZ (0))), (0, .ref (o)), (1, .int (iZ (((f : Nat) : Int)))), (2, .int (iZ (((g : Nat) : Int))))] := hl
          refine pb_goto C dX3_covers_79 (tgt := 39) (by decide) ?_
          exact pb_V.mono (by omega) (by omega) (ih39 _ (by omega) (k + 1) false H rfl hG hM hF (by omega) (by rw [allB, ← hbb, c47_, Bool.true_and]; first | exact (decide_eq_true (by omega)).symm | exact (decide_eq_false (by omega)).symm) ls (lv_sub hl [2, 3, 4, 1, 0] rfl))
        · refine pb_ic C dX3_covers_70 ?_
          refine pb_goto C dX3_covers_71 (tgt := 75) (by decide) ?_
          refine pb_istore_n C dX3_covers_75 rfl hl (by decide) rfl fun ls hl => ?_
          have hl : lv_has ls 5 [(3, .int (iZ (1))), (0, .ref (o)), (1, .int (iZ (((f : Nat) : Int)))), (2, .int (iZ (((g : Nat) : Int)))), (4, .int (iZ (((k : Nat) : Int))))] := hl
          refine pb_iinc C dX3_covers_76 hl (j := 4) (x := (((k : Nat) : Int))) rfl (by decide) rfl fun ls hl => ?_
          have hl : lv_has ls 5 [(4, .int (iZ ((((k + 1) : Nat) : Int)))), (3, .int (iZ (1))), (0, .ref (o)), (1, .int (iZ (((f : Nat) : Int)))), (2, .int (iZ (((g : Nat) : Int))))] := hl
          refine pb_goto C dX3_covers_79 (tgt := 39) (by decide) ?_
          exact pb_V.mono (by omega) (by omega) (ih39 _ (by omega) (k + 1) true H rfl hG hM hF (by omega) (by rw [allB, ← hbb, c47_, Bool.true_and]; first | exact (decide_eq_true (by omega)).symm | exact (decide_eq_false (by omega)).symm) ls (lv_sub hl [2, 3, 4, 1, 0] rfl))
  refine pb_aload_n C dX3_covers_0 rfl (lv_at hl 0 rfl) ?_
  refine pb_iload_n C dX3_covers_1 rfl (lv_at hl 1 rfl) ?_
  refine pb_go_x (bc' := 0) (bs' := 0) (pb_runS (rest := [.ref (o)]) C hG (met_X3_isSheet l (((f : Nat) : Int)) (by omega)) (lw_S q1794 q1795 q60 q1796) hdX3_isSheet rfl hl.1 rfl (Nat.le_of_ble_eq_true rfl) ⟨(Nat.le_of_ble_eq_true rfl), (Nat.le_of_ble_eq_true rfl)⟩ dX3_covers_2) (by omega) (by omega) ?_
  refine pb_ifB_eq C dX3_covers_5 (tgt := 15) (by decide) (fun c5_ => ?_) (fun c5_ => ?_)
  · have c5_ := of_decide_eq_false c5_
    omega
  · have c5_ := of_decide_eq_true c5_
    refine pb_iload_n C dX3_covers_8 rfl (lv_at hl 2 rfl) ?_
    refine pb_go_x (bc' := 0) (bs' := 0) (pb_runS (rest := [.ref (o)]) C hG (met_X3_isSheet l (((g : Nat) : Int)) (by omega)) (lw_S q1794 q1795 q60 q1796) hdX3_isSheet rfl hl.1 rfl (Nat.le_of_ble_eq_true rfl) ⟨(Nat.le_of_ble_eq_true rfl), (Nat.le_of_ble_eq_true rfl)⟩ dX3_covers_9) (by omega) (by omega) ?_
    refine pb_ifB_ne C dX3_covers_12 (tgt := 19) (by decide) (fun c12_ => ?_) (fun c12_ => ?_)
    · have c12_ := of_decide_eq_true c12_
      refine pb_ic C dX3_covers_19 ?_
      refine pb_put C in_X3 tyX3 tyX3_ok nmX3 hO (ci := 2) rfl 0 (by decide) q1737 (fun _ h9 => h9) rfl (v := .int (iZ (0))) rfl rfl (Nat.le_of_ble_eq_true rfl) (by omega) dX3_covers_20 fun H1_ hu_ hO => ?_
      have hO : pb_O w H1_ (o) 2 [.int (iZ (0)), .int (iZ ((S.1 1))), .ref (o + 1), .ref (o + 2), .ref (o + 3), .ref (o + 4), .ref (o + 5), .ref (o + 6), .ref (o + 7), .ref (o + 8), .ref (o + 9), .ref (o + 10), .ref (o + 11), .ref (o + 12), .int (iZ ((S.1 2))), .int (iZ ((S.1 3)))] := hO
      have hG := hG.kept (hu_.z (by omega))
      have hA1 := hA1.kept (hu_.2 _ (by omega))
      have hA2 := hA2.kept (hu_.2 _ (by omega))
      have hA3 := hA3.kept (hu_.2 _ (by omega))
      have hA4 := hA4.kept (hu_.2 _ (by omega))
      have hA5 := hA5.kept (hu_.2 _ (by omega))
      have hA6 := hA6.kept (hu_.2 _ (by omega))
      have hA7 := hA7.kept (hu_.2 _ (by omega))
      have hA8 := hA8.kept (hu_.2 _ (by omega))
      have hA9 := hA9.kept (hu_.2 _ (by omega))
      have hA10 := hA10.kept (hu_.2 _ (by omega))
      have hA11 := hA11.kept (hu_.2 _ (by omega))
      have hA12 := hA12.kept (hu_.2 _ (by omega))
      have hF := hF.up hu_ (by omega)
      refine pb_aload_n C dX3_covers_23 rfl (lv_at hl 0 rfl) ?_
      refine pb_get C in_X3 hO.r (ci := 2) rfl 0 (by decide) q1737 (fun _ h9 => h9) (v := .int (iZ (0))) rfl dX3_covers_24 ?_
      refine pb_if_ne C dX3_covers_27 (x := 0) (tgt := 34) (by decide) (by omega) (fun c27_ => ?_) (fun c27_ => ?_)
      · exact absurd c27_ (by decide)
      · refine pb_ic C dX3_covers_30 ?_
        refine pb_goto C dX3_covers_31 (tgt := 35) (by decide) ?_
        refine pb_istore_n C dX3_covers_35 rfl hl (by decide) rfl fun ls hl => ?_
        have hl : lv_has ls 5 [(3, .int (iZ (1))), (0, .ref (o)), (1, .int (iZ (((f : Nat) : Int)))), (2, .int (iZ (((g : Nat) : Int))))] := hl
        refine pb_ic C dX3_covers_36 ?_
        refine pb_istore C dX3_covers_37 hl (by decide) rfl fun ls hl => ?_
        have hl : lv_has ls 5 [(4, .int (iZ (0))), (3, .int (iZ (1))), (0, .ref (o)), (1, .int (iZ (((f : Nat) : Int)))), (2, .int (iZ (((g : Nat) : Int))))] := hl
        exact pb_V.mono (by omega) (by omega) (L39 _ 0 true H1_ rfl hG ⟨hz, hO, hA1, hA2, hA3, hA4, hA5, hA6, hA7, hA8, hA9, hA10, hA11, hA12⟩ hF (by omega) rfl ls (lv_sub hl [2, 3, 4, 1, 0] rfl))
    · have c12_ := of_decide_eq_false c12_
      omega

set_option maxHeartbeats 1000000 in
theorem met_X3_covers_1 {w : pb_W} (l : Launch) {H0 : Heap} (o : Nat) (S : mS) (hM : MW w H0 o S) (f g : Int) (hfr : -2147483648 ≤ f ∧ f ≤ 2147483647) (hgr : -2147483648 ≤ g ∧ g ≤ 2147483647) (hn : ¬ ((0 ≤ f ∧ f ≤ 7) ∧ 0 ≤ g ∧ g ≤ 7)) : pb_M w l yX3_covers cX3_covers 5 (some .boolean) 5 (0) (0) [.ref (o), .int (iZ (f)), .int (iZ (g))] H0 (pb_qi (fun z H1 => z = 0 ∧ MW w H1 o (mI S 0 1) ∧ mF o H0 H1)) := by
  refine pb_of (by decide +kernel) (Nat.le_of_ble_eq_true rfl) ?_
  intro p_ e_ s_ m_ ar_ bl_ me_ co_ ls C hh hG hl
  have hl : lv_has ls 5 [(0, .ref (o)), (1, .int (iZ (f))), (2, .int (iZ (g)))] := hl
  have hM0 := hM; obtain ⟨hz, hO, hA1, hA2, hA3, hA4, hA5, hA6, hA7, hA8, hA9, hA10, hA11, hA12⟩ := hM0
  have hF : mF o H0 H0 := mF.rf
  refine pb_aload_n C dX3_covers_0 rfl (lv_at hl 0 rfl) ?_
  refine pb_iload_n C dX3_covers_1 rfl (lv_at hl 1 rfl) ?_
  refine pb_go_x (bc' := 0) (bs' := 0) (pb_runS (rest := [.ref (o)]) C hG (met_X3_isSheet l f (by omega)) (lw_S q1794 q1795 q60 q1796) hdX3_isSheet rfl hl.1 rfl (Nat.le_of_ble_eq_true rfl) ⟨(Nat.le_of_ble_eq_true rfl), (Nat.le_of_ble_eq_true rfl)⟩ dX3_covers_2) (by omega) (by omega) ?_
  refine pb_ifB_eq C dX3_covers_5 (tgt := 15) (by decide) (fun c5_ => ?_) (fun c5_ => ?_)
  · have c5_ := of_decide_eq_false c5_
    refine pb_ic C dX3_covers_15 ?_
    refine pb_goto C dX3_covers_16 (tgt := 20) (by decide) ?_
    refine pb_put C in_X3 tyX3 tyX3_ok nmX3 hO (ci := 2) rfl 0 (by decide) q1737 (fun _ h9 => h9) rfl (v := .int (iZ (1))) rfl rfl (Nat.le_of_ble_eq_true rfl) (by omega) dX3_covers_20 fun H1_ hu_ hO => ?_
    have hO : pb_O w H1_ (o) 2 [.int (iZ (1)), .int (iZ ((S.1 1))), .ref (o + 1), .ref (o + 2), .ref (o + 3), .ref (o + 4), .ref (o + 5), .ref (o + 6), .ref (o + 7), .ref (o + 8), .ref (o + 9), .ref (o + 10), .ref (o + 11), .ref (o + 12), .int (iZ ((S.1 2))), .int (iZ ((S.1 3)))] := hO
    have hG := hG.kept (hu_.z (by omega))
    have hA1 := hA1.kept (hu_.2 _ (by omega))
    have hA2 := hA2.kept (hu_.2 _ (by omega))
    have hA3 := hA3.kept (hu_.2 _ (by omega))
    have hA4 := hA4.kept (hu_.2 _ (by omega))
    have hA5 := hA5.kept (hu_.2 _ (by omega))
    have hA6 := hA6.kept (hu_.2 _ (by omega))
    have hA7 := hA7.kept (hu_.2 _ (by omega))
    have hA8 := hA8.kept (hu_.2 _ (by omega))
    have hA9 := hA9.kept (hu_.2 _ (by omega))
    have hA10 := hA10.kept (hu_.2 _ (by omega))
    have hA11 := hA11.kept (hu_.2 _ (by omega))
    have hA12 := hA12.kept (hu_.2 _ (by omega))
    have hF := hF.up hu_ (by omega)
    refine pb_aload_n C dX3_covers_23 rfl (lv_at hl 0 rfl) ?_
    refine pb_get C in_X3 hO.r (ci := 2) rfl 0 (by decide) q1737 (fun _ h9 => h9) (v := .int (iZ (1))) rfl dX3_covers_24 ?_
    refine pb_if_ne C dX3_covers_27 (x := 1) (tgt := 34) (by decide) (by omega) (fun c27_ => ?_) (fun c27_ => ?_)
    · refine pb_ic C dX3_covers_34 ?_
      refine pb_istore_n C dX3_covers_35 rfl hl (by decide) rfl fun ls hl => ?_
      have hl : lv_has ls 5 [(3, .int (iZ (0))), (0, .ref (o)), (1, .int (iZ (f))), (2, .int (iZ (g)))] := hl
      refine pb_ic C dX3_covers_36 ?_
      refine pb_istore C dX3_covers_37 hl (by decide) rfl fun ls hl => ?_
      have hl : lv_has ls 5 [(4, .int (iZ (0))), (3, .int (iZ (0))), (0, .ref (o)), (1, .int (iZ (f))), (2, .int (iZ (g)))] := hl
      refine pb_iload C dX3_covers_39 (lv_at hl 0 rfl) ?_
      refine pb_bip C dX3_covers_41 (by decide) ?_
      refine pb_icmp_ge C dX3_covers_43 (x := 0) (y := 24) (tgt := 82) (by decide) (by omega) (by omega) (fun c43_ => ?_) (fun c43_ => ?_)
      · exact absurd c43_ (by decide)
      · refine pb_iload_n C dX3_covers_46 rfl (lv_at hl 1 rfl) ?_
        refine pb_if_eq C dX3_covers_47 (x := 0) (tgt := 82) (by decide) (by omega) (fun c47_ => ?_) (fun c47_ => ?_)
        · refine pb_iload_n C dX3_covers_82 rfl (lv_at hl 1 rfl) ?_
          exact pb_zret C dX3_covers_83 (by decide +kernel) (⟨_, rfl, rfl, ⟨hz, hO, hA1, hA2, hA3, hA4, hA5, hA6, hA7, hA8, hA9, hA10, hA11, hA12⟩, hF⟩)
        · exact absurd c47_ (by decide)
    · exact absurd c27_ (by decide)
  · have c5_ := of_decide_eq_true c5_
    refine pb_iload_n C dX3_covers_8 rfl (lv_at hl 2 rfl) ?_
    refine pb_go_x (bc' := 0) (bs' := 0) (pb_runS (rest := [.ref (o)]) C hG (met_X3_isSheet l g (by omega)) (lw_S q1794 q1795 q60 q1796) hdX3_isSheet rfl hl.1 rfl (Nat.le_of_ble_eq_true rfl) ⟨(Nat.le_of_ble_eq_true rfl), (Nat.le_of_ble_eq_true rfl)⟩ dX3_covers_9) (by omega) (by omega) ?_
    refine pb_ifB_ne C dX3_covers_12 (tgt := 19) (by decide) (fun c12_ => ?_) (fun c12_ => ?_)
    · have c12_ := of_decide_eq_true c12_
      omega
    · have c12_ := of_decide_eq_false c12_
      refine pb_ic C dX3_covers_15 ?_
      refine pb_goto C dX3_covers_16 (tgt := 20) (by decide) ?_
      refine pb_put C in_X3 tyX3 tyX3_ok nmX3 hO (ci := 2) rfl 0 (by decide) q1737 (fun _ h9 => h9) rfl (v := .int (iZ (1))) rfl rfl (Nat.le_of_ble_eq_true rfl) (by omega) dX3_covers_20 fun H2_ hu_ hO => ?_
      have hO : pb_O w H2_ (o) 2 [.int (iZ (1)), .int (iZ ((S.1 1))), .ref (o + 1), .ref (o + 2), .ref (o + 3), .ref (o + 4), .ref (o + 5), .ref (o + 6), .ref (o + 7), .ref (o + 8), .ref (o + 9), .ref (o + 10), .ref (o + 11), .ref (o + 12), .int (iZ ((S.1 2))), .int (iZ ((S.1 3)))] := hO
      have hG := hG.kept (hu_.z (by omega))
      have hA1 := hA1.kept (hu_.2 _ (by omega))
      have hA2 := hA2.kept (hu_.2 _ (by omega))
      have hA3 := hA3.kept (hu_.2 _ (by omega))
      have hA4 := hA4.kept (hu_.2 _ (by omega))
      have hA5 := hA5.kept (hu_.2 _ (by omega))
      have hA6 := hA6.kept (hu_.2 _ (by omega))
      have hA7 := hA7.kept (hu_.2 _ (by omega))
      have hA8 := hA8.kept (hu_.2 _ (by omega))
      have hA9 := hA9.kept (hu_.2 _ (by omega))
      have hA10 := hA10.kept (hu_.2 _ (by omega))
      have hA11 := hA11.kept (hu_.2 _ (by omega))
      have hA12 := hA12.kept (hu_.2 _ (by omega))
      have hF := hF.up hu_ (by omega)
      refine pb_aload_n C dX3_covers_23 rfl (lv_at hl 0 rfl) ?_
      refine pb_get C in_X3 hO.r (ci := 2) rfl 0 (by decide) q1737 (fun _ h9 => h9) (v := .int (iZ (1))) rfl dX3_covers_24 ?_
      refine pb_if_ne C dX3_covers_27 (x := 1) (tgt := 34) (by decide) (by omega) (fun c27_ => ?_) (fun c27_ => ?_)
      · refine pb_ic C dX3_covers_34 ?_
        refine pb_istore_n C dX3_covers_35 rfl hl (by decide) rfl fun ls hl => ?_
        have hl : lv_has ls 5 [(3, .int (iZ (0))), (0, .ref (o)), (1, .int (iZ (f))), (2, .int (iZ (g)))] := hl
        refine pb_ic C dX3_covers_36 ?_
        refine pb_istore C dX3_covers_37 hl (by decide) rfl fun ls hl => ?_
        have hl : lv_has ls 5 [(4, .int (iZ (0))), (3, .int (iZ (0))), (0, .ref (o)), (1, .int (iZ (f))), (2, .int (iZ (g)))] := hl
        refine pb_iload C dX3_covers_39 (lv_at hl 0 rfl) ?_
        refine pb_bip C dX3_covers_41 (by decide) ?_
        refine pb_icmp_ge C dX3_covers_43 (x := 0) (y := 24) (tgt := 82) (by decide) (by omega) (by omega) (fun c43_ => ?_) (fun c43_ => ?_)
        · exact absurd c43_ (by decide)
        · refine pb_iload_n C dX3_covers_46 rfl (lv_at hl 1 rfl) ?_
          refine pb_if_eq C dX3_covers_47 (x := 0) (tgt := 82) (by decide) (by omega) (fun c47_ => ?_) (fun c47_ => ?_)
          · refine pb_iload_n C dX3_covers_82 rfl (lv_at hl 1 rfl) ?_
            exact pb_zret C dX3_covers_83 (by decide +kernel) (⟨_, rfl, rfl, ⟨hz, hO, hA1, hA2, hA3, hA4, hA5, hA6, hA7, hA8, hA9, hA10, hA11, hA12⟩, hF⟩)
          · exact absurd c47_ (by decide)
      · exact absurd c27_ (by decide)

