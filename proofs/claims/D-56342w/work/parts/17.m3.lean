set_option maxRecDepth 100000
set_option maxHeartbeats 1000000 in
theorem met_X3_lineTo {w : pb_W} (l : Launch) {H0 : Heap} (o : Nat) (S : mS) (hM : MW w H0 o S) (x y : Int) (hx : -2147483648 ≤ x ∧ x ≤ 2147483647) (hy : -2147483648 ≤ y ∧ y ≤ 2147483647) (n : Nat) (hn : S.1 1 = ((n : Nat) : Int)) (hP : ∀ i, i < n → (0 ≤ S.2.2 0 i ∧ S.2.2 0 i ≤ 24) ∧ 0 ≤ S.2.2 1 i ∧ S.2.2 1 i ≤ 24) (h1 : 1 ≤ n) (h2 : n ≤ 39) (hp : (0 ≤ x ∧ x ≤ 24) ∧ 0 ≤ y ∧ y ≤ 24) (hq : ¬ (x = S.2.2 0 (n - 1) ↔ y = S.2.2 1 (n - 1))) : pb_M w l yX3_lineTo cX3_lineTo 3 (some .int) 2 (0) (0) [.ref (o), .int (iZ (x)), .int (iZ (y))] H0 (pb_qi (fun z H1 => z = ((n + 1 : Nat) : Int) ∧ MW w H1 o (mI (mC (mC (mI S 0 0) 0 (va_up (S.2.2 0) n x)) 1 (va_up (S.2.2 1) n y)) 1 ((n + 1 : Nat) : Int)) ∧ mF o H0 H1)) := by
  refine pb_of (by decide +kernel) (Nat.le_of_ble_eq_true rfl) ?_
  intro p_ e_ s_ m_ ar_ bl_ me_ co_ ls C hh hG hl
  have hl : lv_has ls 3 [(0, .ref (o)), (1, .int (iZ (x))), (2, .int (iZ (y)))] := hl
  have hM0 := hM; obtain ⟨hz, hO, hA1, hA2, hA3, hA4, hA5, hA6, hA7, hA8, hA9, hA10, hA11, hA12⟩ := hM0
  have hO : pb_O w H0 o 2 [.int (iZ ((S.1 0))), .int (iZ (((n : Nat) : Int))), .ref (o + 1), .ref (o + 2), .ref (o + 3), .ref (o + 4), .ref (o + 5), .ref (o + 6), .ref (o + 7), .ref (o + 8), .ref (o + 9), .ref (o + 10), .ref (o + 11), .ref (o + 12), .int (iZ ((S.1 2))), .int (iZ ((S.1 3)))] := hn ▸ hO
  have hF : mF o H0 H0 := mF.rf
  have hPn := hP (n - 1) (by omega)
  refine pb_aload_n C dX3_lineTo_0 rfl (lv_at hl 0 rfl) ?_
  refine pb_get C in_X3 hO.r (ci := 2) rfl 1 (by decide) q1738 (fun _ h9 => h9) (v := .int (iZ (((n : Nat) : Int)))) rfl dX3_lineTo_1 ?_
  refine pb_if_eq C dX3_lineTo_4 (x := ((n : Nat) : Int)) (tgt := 16) (by decide) (by omega) (fun c4_ => ?_) (fun c4_ => ?_)
  · omega
  · refine pb_aload_n C dX3_lineTo_7 rfl (lv_at hl 0 rfl) ?_
    refine pb_get C in_X3 hO.r (ci := 2) rfl 1 (by decide) q1738 (fun _ h9 => h9) (v := .int (iZ (((n : Nat) : Int)))) rfl dX3_lineTo_8 ?_
    refine pb_bip C dX3_lineTo_11 (by decide) ?_
    refine pb_icmp_ne C dX3_lineTo_13 (x := ((n : Nat) : Int)) (y := 40) (tgt := 22) (by decide) (by omega) (by omega) (fun c13_ => ?_) (fun c13_ => ?_)
    · refine pb_iload_n C dX3_lineTo_22 rfl (lv_at hl 1 rfl) ?_
      refine pb_iload_n C dX3_lineTo_23 rfl (lv_at hl 2 rfl) ?_
      refine pb_go_x (bc' := 0) (bs' := 0) (pb_runS (rest := []) C hG (met_X3_isPoint l x y (by omega) (by omega)) (lw_S q1829 q1830 q60 q1831) hdX3_isPoint rfl hl.1 rfl (Nat.le_of_ble_eq_true rfl) ⟨(Nat.le_of_ble_eq_true rfl), (Nat.le_of_ble_eq_true rfl)⟩ dX3_lineTo_24) (by omega) (by omega) ?_
      refine pb_ifB_eq C dX3_lineTo_27 (tgt := 60) (by decide) (fun c27_ => ?_) (fun c27_ => ?_)
      · have c27_ := of_decide_eq_false c27_
        omega
      · have c27_ := of_decide_eq_true c27_
        refine pb_iload_n C dX3_lineTo_30 rfl (lv_at hl 1 rfl) ?_
        refine pb_iload_n C dX3_lineTo_31 rfl (lv_at hl 2 rfl) ?_
        refine pb_aload_n C dX3_lineTo_32 rfl (lv_at hl 0 rfl) ?_
        refine pb_get C in_X3 hO.r (ci := 2) rfl 6 (by decide) q1743 (fun _ h9 => h9) (v := .ref (o + 5)) rfl dX3_lineTo_33 ?_
        refine pb_aload_n C dX3_lineTo_36 rfl (lv_at hl 0 rfl) ?_
        refine pb_get C in_X3 hO.r (ci := 2) rfl 1 (by decide) q1738 (fun _ h9 => h9) (v := .int (iZ (((n : Nat) : Int)))) rfl dX3_lineTo_37 ?_
        refine pb_ic C dX3_lineTo_40 ?_
        refine pb_isub C dX3_lineTo_41 ?_
        refine pb_eq (g2 := F0 m_ 42 ls [.int (iZ ((((n - 1) : Nat) : Int))), .ref (o + 5), .int (iZ (y)), .int (iZ (x))]) (congrArg (fun z9 => F0 m_ 42 ls [.int (iZ z9), .ref (o + 5), .int (iZ (y)), .int (iZ (x))]) (show (((n : Nat) : Int) - 1) = (((n - 1) : Nat) : Int) from (by omega))) ?_
        refine pb_iald C hA5.b (i := (((n - 1) : Nat) : Int)) (v := .int (iZ ((S.2.2 0 ((n - 1)))))) (by omega) rfl dX3_lineTo_42 ?_
        refine pb_aload_n C dX3_lineTo_43 rfl (lv_at hl 0 rfl) ?_
        refine pb_get C in_X3 hO.r (ci := 2) rfl 7 (by decide) q1744 (fun _ h9 => h9) (v := .ref (o + 6)) rfl dX3_lineTo_44 ?_
        refine pb_aload_n C dX3_lineTo_47 rfl (lv_at hl 0 rfl) ?_
        refine pb_get C in_X3 hO.r (ci := 2) rfl 1 (by decide) q1738 (fun _ h9 => h9) (v := .int (iZ (((n : Nat) : Int)))) rfl dX3_lineTo_48 ?_
        refine pb_ic C dX3_lineTo_51 ?_
        refine pb_isub C dX3_lineTo_52 ?_
        refine pb_eq (g2 := F0 m_ 53 ls [.int (iZ ((((n - 1) : Nat) : Int))), .ref (o + 6), .int (iZ ((S.2.2 0 ((n - 1))))), .int (iZ (y)), .int (iZ (x))]) (congrArg (fun z9 => F0 m_ 53 ls [.int (iZ z9), .ref (o + 6), .int (iZ ((S.2.2 0 ((n - 1))))), .int (iZ (y)), .int (iZ (x))]) (show (((n : Nat) : Int) - 1) = (((n - 1) : Nat) : Int) from (by omega))) ?_
        refine pb_iald C hA6.b (i := (((n - 1) : Nat) : Int)) (v := .int (iZ ((S.2.2 1 ((n - 1)))))) (by omega) rfl dX3_lineTo_53 ?_
        refine pb_go_x (bc' := 0) (bs' := 0) (pb_runS (rest := []) C hG (met_X3_isLine l x y (S.2.2 0 (n - 1)) (S.2.2 1 (n - 1)) hx hy (by omega) (by omega)) (lw_S q1840 q1841 q60 q1842) hdX3_isLine rfl hl.1 rfl (Nat.le_of_ble_eq_true rfl) ⟨(Nat.le_of_ble_eq_true rfl), (Nat.le_of_ble_eq_true rfl)⟩ dX3_lineTo_54) (by omega) (by omega) ?_
        refine pb_ifB_ne C dX3_lineTo_57 (tgt := 66) (by decide) (fun c57_ => ?_) (fun c57_ => ?_)
        · have c57_ := of_decide_eq_true c57_
          refine pb_aload_n C dX3_lineTo_66 rfl (lv_at hl 0 rfl) ?_
          refine pb_ic C dX3_lineTo_67 ?_
          refine pb_put C in_X3 tyX3 tyX3_ok nmX3 hO (ci := 2) rfl 0 (by decide) q1737 (fun _ h9 => h9) rfl (v := .int (iZ (0))) rfl rfl (Nat.le_of_ble_eq_true rfl) (by omega) dX3_lineTo_68 fun H1_ hu_ hO => ?_
          have hO : pb_O w H1_ (o) 2 [.int (iZ (0)), .int (iZ (((n : Nat) : Int))), .ref (o + 1), .ref (o + 2), .ref (o + 3), .ref (o + 4), .ref (o + 5), .ref (o + 6), .ref (o + 7), .ref (o + 8), .ref (o + 9), .ref (o + 10), .ref (o + 11), .ref (o + 12), .int (iZ ((S.1 2))), .int (iZ ((S.1 3)))] := hO
          have hG := hG.kept (hu_.z (by omega))
          have hA1 := hA1.kept (hu_.2 _ (by omega))
          have hA2 := hA2.kept (hu_.2 _ (by omega))
          have hA3 := hA3.kept (hu_.2 _ (by omega))
          have hA4 := hA4.kept (hu_.2 _ (by omega))
          have hA5 := hA5.kept (hu_.2 _ (by omega))
          have hA6 := hA6.kept (hu_.2 _ (by omega))
          have hA7 := hA7.kept (hu_.2 _ (by omega))
          have hA8 := hA8.kept (hu_.2 _ (by omega))
          have hA9 := hA9.kept (hu_.2 _ (by omega))
          have hA10 := hA10.kept (hu_.2 _ (by omega))
          have hA11 := hA11.kept (hu_.2 _ (by omega))
          have hA12 := hA12.kept (hu_.2 _ (by omega))
          have hF := hF.up hu_ (by omega)
          refine pb_aload_n C dX3_lineTo_71 rfl (lv_at hl 0 rfl) ?_
          refine pb_get C in_X3 hO.r (ci := 2) rfl 6 (by decide) q1743 (fun _ h9 => h9) (v := .ref (o + 5)) rfl dX3_lineTo_72 ?_
          refine pb_aload_n C dX3_lineTo_75 rfl (lv_at hl 0 rfl) ?_
          refine pb_get C in_X3 hO.r (ci := 2) rfl 1 (by decide) q1738 (fun _ h9 => h9) (v := .int (iZ (((n : Nat) : Int)))) rfl dX3_lineTo_76 ?_
          refine pb_iload_n C dX3_lineTo_79 rfl (lv_at hl 1 rfl) ?_
          refine pb_iast C hA5 (i := ((n : Nat) : Int)) (by omega) (by omega) dX3_lineTo_80 fun H2_ hu_ hA5 => ?_
          rw [pb_upZ, Int.toNat_natCast] at hA5
          have hG := hG.kept (hu_.z (by omega))
          have hO := hO.kept (hu_.2 _ (by omega))
          have hA1 := hA1.kept (hu_.2 _ (by omega))
          have hA2 := hA2.kept (hu_.2 _ (by omega))
          have hA3 := hA3.kept (hu_.2 _ (by omega))
          have hA4 := hA4.kept (hu_.2 _ (by omega))
          have hA6 := hA6.kept (hu_.2 _ (by omega))
          have hA7 := hA7.kept (hu_.2 _ (by omega))
          have hA8 := hA8.kept (hu_.2 _ (by omega))
          have hA9 := hA9.kept (hu_.2 _ (by omega))
          have hA10 := hA10.kept (hu_.2 _ (by omega))
          have hA11 := hA11.kept (hu_.2 _ (by omega))
          have hA12 := hA12.kept (hu_.2 _ (by omega))
          have hF := hF.up hu_ (by omega)
          refine pb_aload_n C dX3_lineTo_81 rfl (lv_at hl 0 rfl) ?_
          refine pb_get C in_X3 hO.r (ci := 2) rfl 7 (by decide) q1744 (fun _ h9 => h9) (v := .ref (o + 6)) rfl dX3_lineTo_82 ?_
          refine pb_aload_n C dX3_lineTo_85 rfl (lv_at hl 0 rfl) ?_
          refine pb_get C in_X3 hO.r (ci := 2) rfl 1 (by decide) q1738 (fun _ h9 => h9) (v := .int (iZ (((n : Nat) : Int)))) rfl dX3_lineTo_86 ?_
          refine pb_iload_n C dX3_lineTo_89 rfl (lv_at hl 2 rfl) ?_
          refine pb_iast C hA6 (i := ((n : Nat) : Int)) (by omega) (by omega) dX3_lineTo_90 fun H3_ hu_ hA6 => ?_
          rw [pb_upZ, Int.toNat_natCast] at hA6
          have hG := hG.kept (hu_.z (by omega))
          have hO := hO.kept (hu_.2 _ (by omega))
          have hA1 := hA1.kept (hu_.2 _ (by omega))
          have hA2 := hA2.kept (hu_.2 _ (by omega))
          have hA3 := hA3.kept (hu_.2 _ (by omega))
          have hA4 := hA4.kept (hu_.2 _ (by omega))
          have hA5 := hA5.kept (hu_.2 _ (by omega))
          have hA7 := hA7.kept (hu_.2 _ (by omega))
          have hA8 := hA8.kept (hu_.2 _ (by omega))
          have hA9 := hA9.kept (hu_.2 _ (by omega))
          have hA10 := hA10.kept (hu_.2 _ (by omega))
          have hA11 := hA11.kept (hu_.2 _ (by omega))
          have hA12 := hA12.kept (hu_.2 _ (by omega))
          have hF := hF.up hu_ (by omega)
          refine pb_aload_n C dX3_lineTo_91 rfl (lv_at hl 0 rfl) ?_
          refine pb_dup C dX3_lineTo_92 rfl ?_
          refine pb_get C in_X3 hO.r (ci := 2) rfl 1 (by decide) q1738 (fun _ h9 => h9) (v := .int (iZ (((n : Nat) : Int)))) rfl dX3_lineTo_93 ?_
          refine pb_ic C dX3_lineTo_96 ?_
          refine pb_iadd C dX3_lineTo_97 ?_
          refine pb_put C in_X3 tyX3 tyX3_ok nmX3 hO (ci := 2) rfl 1 (by decide) q1738 (fun _ h9 => h9) rfl (v := .int (iZ ((((n + 1) : Nat) : Int)))) rfl rfl (Nat.le_of_ble_eq_true rfl) (by omega) dX3_lineTo_98 fun H4_ hu_ hO => ?_
          have hO : pb_O w H4_ (o) 2 [.int (iZ (0)), .int (iZ ((((n + 1) : Nat) : Int))), .ref (o + 1), .ref (o + 2), .ref (o + 3), .ref (o + 4), .ref (o + 5), .ref (o + 6), .ref (o + 7), .ref (o + 8), .ref (o + 9), .ref (o + 10), .ref (o + 11), .ref (o + 12), .int (iZ ((S.1 2))), .int (iZ ((S.1 3)))] := hO
          have hG := hG.kept (hu_.z (by omega))
          have hA1 := hA1.kept (hu_.2 _ (by omega))
          have hA2 := hA2.kept (hu_.2 _ (by omega))
          have hA3 := hA3.kept (hu_.2 _ (by omega))
          have hA4 := hA4.kept (hu_.2 _ (by omega))
          have hA5 := hA5.kept (hu_.2 _ (by omega))
          have hA6 := hA6.kept (hu_.2 _ (by omega))
          have hA7 := hA7.kept (hu_.2 _ (by omega))
          have hA8 := hA8.kept (hu_.2 _ (by omega))
          have hA9 := hA9.kept (hu_.2 _ (by omega))
          have hA10 := hA10.kept (hu_.2 _ (by omega))
          have hA11 := hA11.kept (hu_.2 _ (by omega))
          have hA12 := hA12.kept (hu_.2 _ (by omega))
          have hF := hF.up hu_ (by omega)
          refine pb_aload_n C dX3_lineTo_101 rfl (lv_at hl 0 rfl) ?_
          refine pb_get C in_X3 hO.r (ci := 2) rfl 1 (by decide) q1738 (fun _ h9 => h9) (v := .int (iZ ((((n + 1) : Nat) : Int)))) rfl dX3_lineTo_102 ?_
          exact pb_iret C dX3_lineTo_105 (⟨_, rfl, rfl, ⟨hz, hO, hA1, hA2, hA3, hA4, hA5, hA6, hA7, hA8, hA9, hA10, hA11, hA12⟩, hF⟩)
        · have c57_ := of_decide_eq_false c57_
          omega
    · omega

set_option maxHeartbeats 1000000 in
theorem met_X3_lineTo_1 {w : pb_W} (l : Launch) {H0 : Heap} (o : Nat) (S : mS) (hM : MW w H0 o S) (x y : Int) (hx : -2147483648 ≤ x ∧ x ≤ 2147483647) (hy : -2147483648 ≤ y ∧ y ≤ 2147483647) (n : Nat) (hn : S.1 1 = ((n : Nat) : Int)) (hP : ∀ i, i < n → (0 ≤ S.2.2 0 i ∧ S.2.2 0 i ≤ 24) ∧ 0 ≤ S.2.2 1 i ∧ S.2.2 1 i ≤ 24) (h1 : n = 0 ∨ n = 40) : pb_M w l yX3_lineTo cX3_lineTo 3 (some .int) 2 (0) (0) [.ref (o), .int (iZ (x)), .int (iZ (y))] H0 (pb_qi (fun z H1 => z = 0 ∧ MW w H1 o (mI S 0 1) ∧ mF o H0 H1)) := by
  refine pb_of (by decide +kernel) (Nat.le_of_ble_eq_true rfl) ?_
  intro p_ e_ s_ m_ ar_ bl_ me_ co_ ls C hh hG hl
  have hl : lv_has ls 3 [(0, .ref (o)), (1, .int (iZ (x))), (2, .int (iZ (y)))] := hl
  have hM0 := hM; obtain ⟨hz, hO, hA1, hA2, hA3, hA4, hA5, hA6, hA7, hA8, hA9, hA10, hA11, hA12⟩ := hM0
  have hO : pb_O w H0 o 2 [.int (iZ ((S.1 0))), .int (iZ (((n : Nat) : Int))), .ref (o + 1), .ref (o + 2), .ref (o + 3), .ref (o + 4), .ref (o + 5), .ref (o + 6), .ref (o + 7), .ref (o + 8), .ref (o + 9), .ref (o + 10), .ref (o + 11), .ref (o + 12), .int (iZ ((S.1 2))), .int (iZ ((S.1 3)))] := hn ▸ hO
  have hF : mF o H0 H0 := mF.rf
  refine pb_aload_n C dX3_lineTo_0 rfl (lv_at hl 0 rfl) ?_
  refine pb_get C in_X3 hO.r (ci := 2) rfl 1 (by decide) q1738 (fun _ h9 => h9) (v := .int (iZ (((n : Nat) : Int)))) rfl dX3_lineTo_1 ?_
  refine pb_if_eq C dX3_lineTo_4 (x := ((n : Nat) : Int)) (tgt := 16) (by decide) (by omega) (fun c4_ => ?_) (fun c4_ => ?_)
  · refine pb_aload_n C dX3_lineTo_16 rfl (lv_at hl 0 rfl) ?_
    refine pb_ic C dX3_lineTo_17 ?_
    refine pb_go_i (bc' := 0) (bs' := 0) (pb_runV (rest := []) C hG (met_X3_fail l o S hM 1) hO.r (ci := 2) rfl (lw_V q1836 q1838 qs29 q60 q1839) ⟨rfl, hdX3_fail⟩ rfl hl.1 rfl (Nat.le_of_ble_eq_true rfl) ⟨(Nat.le_of_ble_eq_true rfl), (Nat.le_of_ble_eq_true rfl)⟩ dX3_lineTo_18) (by omega) (by omega) (fun z_ H_ hp_ => ?_)
    obtain ⟨rfl, hM, hF⟩ := hp_
    exact pb_iret C dX3_lineTo_21 (⟨_, rfl, rfl, hM, hF⟩)
  · refine pb_aload_n C dX3_lineTo_7 rfl (lv_at hl 0 rfl) ?_
    refine pb_get C in_X3 hO.r (ci := 2) rfl 1 (by decide) q1738 (fun _ h9 => h9) (v := .int (iZ (((n : Nat) : Int)))) rfl dX3_lineTo_8 ?_
    refine pb_bip C dX3_lineTo_11 (by decide) ?_
    refine pb_icmp_ne C dX3_lineTo_13 (x := ((n : Nat) : Int)) (y := 40) (tgt := 22) (by decide) (by omega) (by omega) (fun c13_ => ?_) (fun c13_ => ?_)
    · omega
    · refine pb_aload_n C dX3_lineTo_16 rfl (lv_at hl 0 rfl) ?_
      refine pb_ic C dX3_lineTo_17 ?_
      refine pb_go_i (bc' := 0) (bs' := 0) (pb_runV (rest := []) C hG (met_X3_fail l o S hM 1) hO.r (ci := 2) rfl (lw_V q1836 q1838 qs29 q60 q1839) ⟨rfl, hdX3_fail⟩ rfl hl.1 rfl (Nat.le_of_ble_eq_true rfl) ⟨(Nat.le_of_ble_eq_true rfl), (Nat.le_of_ble_eq_true rfl)⟩ dX3_lineTo_18) (by omega) (by omega) (fun z_ H_ hp_ => ?_)
      obtain ⟨rfl, hM, hF⟩ := hp_
      exact pb_iret C dX3_lineTo_21 (⟨_, rfl, rfl, hM, hF⟩)

set_option maxHeartbeats 1000000 in
theorem met_X3_lineTo_2 {w : pb_W} (l : Launch) {H0 : Heap} (o : Nat) (S : mS) (hM : MW w H0 o S) (x y : Int) (hx : -2147483648 ≤ x ∧ x ≤ 2147483647) (hy : -2147483648 ≤ y ∧ y ≤ 2147483647) (n : Nat) (hn : S.1 1 = ((n : Nat) : Int)) (hP : ∀ i, i < n → (0 ≤ S.2.2 0 i ∧ S.2.2 0 i ≤ 24) ∧ 0 ≤ S.2.2 1 i ∧ S.2.2 1 i ≤ 24) (h1 : 1 ≤ n) (h2 : n ≤ 39) (hp : ¬ (((0 ≤ x ∧ x ≤ 24) ∧ 0 ≤ y ∧ y ≤ 24) ∧ ¬ (x = S.2.2 0 (n - 1) ↔ y = S.2.2 1 (n - 1)))) : pb_M w l yX3_lineTo cX3_lineTo 3 (some .int) 2 (0) (0) [.ref (o), .int (iZ (x)), .int (iZ (y))] H0 (pb_qi (fun z H1 => z = 0 ∧ MW w H1 o (mI S 0 2) ∧ mF o H0 H1)) := by
  refine pb_of (by decide +kernel) (Nat.le_of_ble_eq_true rfl) ?_
  intro p_ e_ s_ m_ ar_ bl_ me_ co_ ls C hh hG hl
  have hl : lv_has ls 3 [(0, .ref (o)), (1, .int (iZ (x))), (2, .int (iZ (y)))] := hl
  have hM0 := hM; obtain ⟨hz, hO, hA1, hA2, hA3, hA4, hA5, hA6, hA7, hA8, hA9, hA10, hA11, hA12⟩ := hM0
  have hO : pb_O w H0 o 2 [.int (iZ ((S.1 0))), .int (iZ (((n : Nat) : Int))), .ref (o + 1), .ref (o + 2), .ref (o + 3), .ref (o + 4), .ref (o + 5), .ref (o + 6), .ref (o + 7), .ref (o + 8), .ref (o + 9), .ref (o + 10), .ref (o + 11), .ref (o + 12), .int (iZ ((S.1 2))), .int (iZ ((S.1 3)))] := hn ▸ hO
  have hF : mF o H0 H0 := mF.rf
  have hPn := hP (n - 1) (by omega)
  refine pb_aload_n C dX3_lineTo_0 rfl (lv_at hl 0 rfl) ?_
  refine pb_get C in_X3 hO.r (ci := 2) rfl 1 (by decide) q1738 (fun _ h9 => h9) (v := .int (iZ (((n : Nat) : Int)))) rfl dX3_lineTo_1 ?_
  refine pb_if_eq C dX3_lineTo_4 (x := ((n : Nat) : Int)) (tgt := 16) (by decide) (by omega) (fun c4_ => ?_) (fun c4_ => ?_)
  · omega
  · refine pb_aload_n C dX3_lineTo_7 rfl (lv_at hl 0 rfl) ?_
    refine pb_get C in_X3 hO.r (ci := 2) rfl 1 (by decide) q1738 (fun _ h9 => h9) (v := .int (iZ (((n : Nat) : Int)))) rfl dX3_lineTo_8 ?_
    refine pb_bip C dX3_lineTo_11 (by decide) ?_
    refine pb_icmp_ne C dX3_lineTo_13 (x := ((n : Nat) : Int)) (y := 40) (tgt := 22) (by decide) (by omega) (by omega) (fun c13_ => ?_) (fun c13_ => ?_)
    · refine pb_iload_n C dX3_lineTo_22 rfl (lv_at hl 1 rfl) ?_
      refine pb_iload_n C dX3_lineTo_23 rfl (lv_at hl 2 rfl) ?_
      refine pb_go_x (bc' := 0) (bs' := 0) (pb_runS (rest := []) C hG (met_X3_isPoint l x y (by omega) (by omega)) (lw_S q1829 q1830 q60 q1831) hdX3_isPoint rfl hl.1 rfl (Nat.le_of_ble_eq_true rfl) ⟨(Nat.le_of_ble_eq_true rfl), (Nat.le_of_ble_eq_true rfl)⟩ dX3_lineTo_24) (by omega) (by omega) ?_
      refine pb_ifB_eq C dX3_lineTo_27 (tgt := 60) (by decide) (fun c27_ => ?_) (fun c27_ => ?_)
      · have c27_ := of_decide_eq_false c27_
        refine pb_aload_n C dX3_lineTo_60 rfl (lv_at hl 0 rfl) ?_
        refine pb_ic C dX3_lineTo_61 ?_
        refine pb_go_i (bc' := 0) (bs' := 0) (pb_runV (rest := []) C hG (met_X3_fail l o S hM 2) hO.r (ci := 2) rfl (lw_V q1836 q1838 qs29 q60 q1839) ⟨rfl, hdX3_fail⟩ rfl hl.1 rfl (Nat.le_of_ble_eq_true rfl) ⟨(Nat.le_of_ble_eq_true rfl), (Nat.le_of_ble_eq_true rfl)⟩ dX3_lineTo_62) (by omega) (by omega) (fun z_ H_ hp_ => ?_)
        obtain ⟨rfl, hM, hF⟩ := hp_
        exact pb_iret C dX3_lineTo_65 (⟨_, rfl, rfl, hM, hF⟩)
      · have c27_ := of_decide_eq_true c27_
        refine pb_iload_n C dX3_lineTo_30 rfl (lv_at hl 1 rfl) ?_
        refine pb_iload_n C dX3_lineTo_31 rfl (lv_at hl 2 rfl) ?_
        refine pb_aload_n C dX3_lineTo_32 rfl (lv_at hl 0 rfl) ?_
        refine pb_get C in_X3 hO.r (ci := 2) rfl 6 (by decide) q1743 (fun _ h9 => h9) (v := .ref (o + 5)) rfl dX3_lineTo_33 ?_
        refine pb_aload_n C dX3_lineTo_36 rfl (lv_at hl 0 rfl) ?_
        refine pb_get C in_X3 hO.r (ci := 2) rfl 1 (by decide) q1738 (fun _ h9 => h9) (v := .int (iZ (((n : Nat) : Int)))) rfl dX3_lineTo_37 ?_
        refine pb_ic C dX3_lineTo_40 ?_
        refine pb_isub C dX3_lineTo_41 ?_
        refine pb_eq (g2 := F0 m_ 42 ls [.int (iZ ((((n - 1) : Nat) : Int))), .ref (o + 5), .int (iZ (y)), .int (iZ (x))]) (congrArg (fun z9 => F0 m_ 42 ls [.int (iZ z9), .ref (o + 5), .int (iZ (y)), .int (iZ (x))]) (show (((n : Nat) : Int) - 1) = (((n - 1) : Nat) : Int) from (by omega))) ?_
        refine pb_iald C hA5.b (i := (((n - 1) : Nat) : Int)) (v := .int (iZ ((S.2.2 0 ((n - 1)))))) (by omega) rfl dX3_lineTo_42 ?_
        refine pb_aload_n C dX3_lineTo_43 rfl (lv_at hl 0 rfl) ?_
        refine pb_get C in_X3 hO.r (ci := 2) rfl 7 (by decide) q1744 (fun _ h9 => h9) (v := .ref (o + 6)) rfl dX3_lineTo_44 ?_
        refine pb_aload_n C dX3_lineTo_47 rfl (lv_at hl 0 rfl) ?_
        refine pb_get C in_X3 hO.r (ci := 2) rfl 1 (by decide) q1738 (fun _ h9 => h9) (v := .int (iZ (((n : Nat) : Int)))) rfl dX3_lineTo_48 ?_
        refine pb_ic C dX3_lineTo_51 ?_
        refine pb_isub C dX3_lineTo_52 ?_
        refine pb_eq (g2 := F0 m_ 53 ls [.int (iZ ((((n - 1) : Nat) : Int))), .ref (o + 6), .int (iZ ((S.2.2 0 ((n - 1))))), .int (iZ (y)), .int (iZ (x))]) (congrArg (fun z9 => F0 m_ 53 ls [.int (iZ z9), .ref (o + 6), .int (iZ ((S.2.2 0 ((n - 1))))), .int (iZ (y)), .int (iZ (x))]) (show (((n : Nat) : Int) - 1) = (((n - 1) : Nat) : Int) from (by omega))) ?_
        refine pb_iald C hA6.b (i := (((n - 1) : Nat) : Int)) (v := .int (iZ ((S.2.2 1 ((n - 1)))))) (by omega) rfl dX3_lineTo_53 ?_
        refine pb_go_x (bc' := 0) (bs' := 0) (pb_runS (rest := []) C hG (met_X3_isLine l x y (S.2.2 0 (n - 1)) (S.2.2 1 (n - 1)) hx hy (by omega) (by omega)) (lw_S q1840 q1841 q60 q1842) hdX3_isLine rfl hl.1 rfl (Nat.le_of_ble_eq_true rfl) ⟨(Nat.le_of_ble_eq_true rfl), (Nat.le_of_ble_eq_true rfl)⟩ dX3_lineTo_54) (by omega) (by omega) ?_
        refine pb_ifB_ne C dX3_lineTo_57 (tgt := 66) (by decide) (fun c57_ => ?_) (fun c57_ => ?_)
        · have c57_ := of_decide_eq_true c57_
          exact absurd ⟨c27_, c57_⟩ hp
        · have c57_ := of_decide_eq_false c57_
          refine pb_aload_n C dX3_lineTo_60 rfl (lv_at hl 0 rfl) ?_
          refine pb_ic C dX3_lineTo_61 ?_
          refine pb_go_i (bc' := 0) (bs' := 0) (pb_runV (rest := []) C hG (met_X3_fail l o S hM 2) hO.r (ci := 2) rfl (lw_V q1836 q1838 qs29 q60 q1839) ⟨rfl, hdX3_fail⟩ rfl hl.1 rfl (Nat.le_of_ble_eq_true rfl) ⟨(Nat.le_of_ble_eq_true rfl), (Nat.le_of_ble_eq_true rfl)⟩ dX3_lineTo_62) (by omega) (by omega) (fun z_ H_ hp_ => ?_)
          obtain ⟨rfl, hM, hF⟩ := hp_
          exact pb_iret C dX3_lineTo_65 (⟨_, rfl, rfl, hM, hF⟩)
    · omega

set_option maxHeartbeats 1000000 in
theorem met_X3_winding {w : pb_W} (l : Launch) {H : Heap} (o : Nat) (S : mS) (hM : MW w H o S) (x y : Int) (hx : 0 ≤ x ∧ x ≤ 23) (hy : 0 ≤ y ∧ y ≤ 23) (n : Nat) (hn : S.1 1 = ((n : Nat) : Int)) (hP : ∀ i, i < n → (0 ≤ S.2.2 0 i ∧ S.2.2 0 i ≤ 24) ∧ 0 ≤ S.2.2 1 i ∧ S.2.2 1 i ≤ 24) (h2 : n ≤ 40) : pb_M w l yX3_winding cX3_winding 6 (some .int) 0 (0) (0) [.ref (o), .int (iZ (x)), .int (iZ (y))] H (pb_qx (.int (iZ (wsum (S.2.2 0) (S.2.2 1) n x y n))) H) := by
  refine pb_of (by decide +kernel) (Nat.le_of_ble_eq_true rfl) ?_
  intro p_ e_ s_ m_ ar_ bl_ me_ co_ ls C hh hG hl
  have hl : lv_has ls 6 [(0, .ref (o)), (1, .int (iZ (x))), (2, .int (iZ (y)))] := hl
  have hM0 := hM; obtain ⟨hz, hO, hA1, hA2, hA3, hA4, hA5, hA6, hA7, hA8, hA9, hA10, hA11, hA12⟩ := hM0
  have hO : pb_O w H o 2 [.int (iZ ((S.1 0))), .int (iZ (((n : Nat) : Int))), .ref (o + 1), .ref (o + 2), .ref (o + 3), .ref (o + 4), .ref (o + 5), .ref (o + 6), .ref (o + 7), .ref (o + 8), .ref (o + 9), .ref (o + 10), .ref (o + 11), .ref (o + 12), .int (iZ ((S.1 2))), .int (iZ ((S.1 3)))] := hn ▸ hO
  have L5 : ∀ (n_ : Nat) (k : Nat) (t : Int), n - k = n_ → (k ≤ n) → (t = wsum (S.2.2 0) (S.2.2 1) n x y k) → ∀ (ls : Array Slot), lv_has ls 6 [(0, .ref (o)), (1, .int (iZ (x))), (2, .int (iZ (y))), (3, .int (iZ (t))), (4, .int (iZ (((k : Nat) : Int))))] → pb_V w.2.2.2 p_ l e_ (pb_rm 0 (0) (0)) s_ m_ ar_ bl_ me_ co_ H (0) (0) (pb_E w bl_ ar_ s_ (0) (0) (pb_qx (.int (iZ (wsum (S.2.2 0) (S.2.2 1) n x y n))) H)) (F0 m_ 5 ls []) := by
    intro n_
    induction n_ using Nat.strongRecOn with
    | _ n_ ih5 =>
    intro k t hm_ hk ht ls hl
    have hb_ := wsum_bd (S.2.2 0) (S.2.2 1) n x y k
    refine pb_iload C dX3_winding_5 (lv_at hl 4 rfl) ?_
    refine pb_aload_n C dX3_winding_7 rfl (lv_at hl 0 rfl) ?_
    refine pb_get C in_X3 hO.r (ci := 2) rfl 1 (by decide) q1738 (fun _ h9 => h9) (v := .int (iZ (((n : Nat) : Int)))) rfl dX3_winding_8 ?_
    refine pb_icmp_ge C dX3_winding_11 (x := ((k : Nat) : Int)) (y := ((n : Nat) : Int)) (tgt := 122) (by decide) (by omega) (by omega) (fun c11_ => ?_) (fun c11_ => ?_)
    · refine pb_iload_n C dX3_winding_122 rfl (lv_at hl 3 rfl) ?_
      exact pb_iret C dX3_winding_123 (⟨by rw [ht, show k = n from by omega], rfl⟩)
    · have hPk := hP k (by omega)
      refine pb_iload C dX3_winding_14 (lv_at hl 4 rfl) ?_
      refine pb_ic C dX3_winding_16 ?_
      refine pb_iadd C dX3_winding_17 ?_
      refine pb_aload_n C dX3_winding_18 rfl (lv_at hl 0 rfl) ?_
      refine pb_get C in_X3 hO.r (ci := 2) rfl 1 (by decide) q1738 (fun _ h9 => h9) (v := .int (iZ (((n : Nat) : Int)))) rfl dX3_winding_19 ?_
      refine pb_icmp_ne C dX3_winding_22 (x := (((k + 1) : Nat) : Int)) (y := ((n : Nat) : Int)) (tgt := 29) (by decide) (by omega) (by omega) (fun c22_ => ?_) (fun c22_ => ?_)
      · refine pb_iload C dX3_winding_29 (lv_at hl 4 rfl) ?_
        refine pb_ic C dX3_winding_31 ?_
        refine pb_iadd C dX3_winding_32 ?_
        refine pb_istore C dX3_winding_33 hl (by decide) rfl fun ls hl => ?_
        have hl : lv_has ls 6 [(5, .int (iZ ((((k + 1) : Nat) : Int)))), (0, .ref (o)), (1, .int (iZ (x))), (2, .int (iZ (y))), (3, .int (iZ (t))), (4, .int (iZ (((k : Nat) : Int))))] := hl
        have hPo := hP ((k + 1)) (by omega)
        refine pb_aload_n C dX3_winding_35 rfl (lv_at hl 1 rfl) ?_
        refine pb_get C in_X3 hO.r (ci := 2) rfl 6 (by decide) q1743 (fun _ h9 => h9) (v := .ref (o + 5)) rfl dX3_winding_36 ?_
        refine pb_iload C dX3_winding_39 (lv_at hl 5 rfl) ?_
        refine pb_iald C hA5.b (i := ((k : Nat) : Int)) (v := .int (iZ ((S.2.2 0 k)))) (by omega) rfl dX3_winding_41 ?_
        refine pb_aload_n C dX3_winding_42 rfl (lv_at hl 1 rfl) ?_
        refine pb_get C in_X3 hO.r (ci := 2) rfl 6 (by decide) q1743 (fun _ h9 => h9) (v := .ref (o + 5)) rfl dX3_winding_43 ?_
        refine pb_iload C dX3_winding_46 (lv_at hl 0 rfl) ?_
        refine pb_iald C hA5.b (i := (((k + 1) : Nat) : Int)) (v := .int (iZ ((S.2.2 0 ((k + 1)))))) (by omega) rfl dX3_winding_48 ?_
        refine pb_icmp_ne C dX3_winding_49 (x := (S.2.2 0 k)) (y := (S.2.2 0 ((k + 1)))) (tgt := 116) (by decide) (by omega) (by omega) (fun c49_ => ?_) (fun c49_ => ?_)
        · refine pb_iinc C dX3_winding_116 hl (j := 5) (x := (((k : Nat) : Int))) rfl (by decide) rfl fun ls hl => ?_
          have hl : lv_has ls 6 [(4, .int (iZ ((((k + 1) : Nat) : Int)))), (5, .int (iZ ((((k + 1) : Nat) : Int)))), (0, .ref (o)), (1, .int (iZ (x))), (2, .int (iZ (y))), (3, .int (iZ (t)))] := hl
          refine pb_goto C dX3_winding_119 (tgt := 5) (by decide) ?_
          exact pb_V.mono (by omega) (by omega) (ih5 _ (by omega) (k + 1) t rfl (by omega) (by rw [wsum, ← ht]; unfold wc; (repeat' split) <;> first | omega | (simp_all; done) | (exfalso; simp_all; omega)) ls (lv_sub hl [2, 3, 4, 5, 0] rfl))
        · refine pb_aload_n C dX3_winding_52 rfl (lv_at hl 1 rfl) ?_
          refine pb_get C in_X3 hO.r (ci := 2) rfl 6 (by decide) q1743 (fun _ h9 => h9) (v := .ref (o + 5)) rfl dX3_winding_53 ?_
          refine pb_iload C dX3_winding_56 (lv_at hl 5 rfl) ?_
          refine pb_iald C hA5.b (i := ((k : Nat) : Int)) (v := .int (iZ ((S.2.2 0 k)))) (by omega) rfl dX3_winding_58 ?_
          refine pb_iload_n C dX3_winding_59 rfl (lv_at hl 2 rfl) ?_
          refine pb_icmp_gt C dX3_winding_60 (x := (S.2.2 0 k)) (y := x) (tgt := 66) (by decide) (by omega) (by omega) (fun c60_ => ?_) (fun c60_ => ?_)
          · refine pb_aload_n C dX3_winding_66 rfl (lv_at hl 1 rfl) ?_
            refine pb_get C in_X3 hO.r (ci := 2) rfl 7 (by decide) q1744 (fun _ h9 => h9) (v := .ref (o + 6)) rfl dX3_winding_67 ?_
            refine pb_iload C dX3_winding_70 (lv_at hl 5 rfl) ?_
            refine pb_iald C hA6.b (i := ((k : Nat) : Int)) (v := .int (iZ ((S.2.2 1 k)))) (by omega) rfl dX3_winding_72 ?_
            refine pb_iload_n C dX3_winding_73 rfl (lv_at hl 3 rfl) ?_
            refine pb_icmp_gt C dX3_winding_74 (x := (S.2.2 1 k)) (y := y) (tgt := 91) (by decide) (by omega) (by omega) (fun c74_ => ?_) (fun c74_ => ?_)
            · refine pb_aload_n C dX3_winding_91 rfl (lv_at hl 1 rfl) ?_
              refine pb_get C in_X3 hO.r (ci := 2) rfl 7 (by decide) q1744 (fun _ h9 => h9) (v := .ref (o + 6)) rfl dX3_winding_92 ?_
              refine pb_iload C dX3_winding_95 (lv_at hl 0 rfl) ?_
              refine pb_iald C hA6.b (i := (((k + 1) : Nat) : Int)) (v := .int (iZ ((S.2.2 1 ((k + 1)))))) (by omega) rfl dX3_winding_97 ?_
              refine pb_iload_n C dX3_winding_98 rfl (lv_at hl 3 rfl) ?_
              refine pb_icmp_gt C dX3_winding_99 (x := (S.2.2 1 ((k + 1)))) (y := y) (tgt := 116) (by decide) (by omega) (by omega) (fun c99_ => ?_) (fun c99_ => ?_)
              · refine pb_iinc C dX3_winding_116 hl (j := 5) (x := (((k : Nat) : Int))) rfl (by decide) rfl fun ls hl => ?_
                have hl : lv_has ls 6 [(4, .int (iZ ((((k + 1) : Nat) : Int)))), (5, .int (iZ ((((k + 1) : Nat) : Int)))), (0, .ref (o)), (1, .int (iZ (x))), (2, .int (iZ (y))), (3, .int (iZ (t)))] := hl
                refine pb_goto C dX3_winding_119 (tgt := 5) (by decide) ?_
                exact pb_V.mono (by omega) (by omega) (ih5 _ (by omega) (k + 1) t rfl (by omega) (by rw [wsum, ← ht]; unfold wc; (repeat' split) <;> first | omega | (simp_all; done) | (exfalso; simp_all; omega)) ls (lv_sub hl [2, 3, 4, 5, 0] rfl))
              · refine pb_aload_n C dX3_winding_102 rfl (lv_at hl 1 rfl) ?_
                refine pb_get C in_X3 hO.r (ci := 2) rfl 7 (by decide) q1744 (fun _ h9 => h9) (v := .ref (o + 6)) rfl dX3_winding_103 ?_
                refine pb_iload C dX3_winding_106 (lv_at hl 5 rfl) ?_
                refine pb_iald C hA6.b (i := ((k : Nat) : Int)) (v := .int (iZ ((S.2.2 1 k)))) (by omega) rfl dX3_winding_108 ?_
                refine pb_iload_n C dX3_winding_109 rfl (lv_at hl 3 rfl) ?_
                refine pb_icmp_le C dX3_winding_110 (x := (S.2.2 1 k)) (y := y) (tgt := 116) (by decide) (by omega) (by omega) (fun c110_ => ?_) (fun c110_ => ?_)
                · refine pb_iinc C dX3_winding_116 hl (j := 5) (x := (((k : Nat) : Int))) rfl (by decide) rfl fun ls hl => ?_
                  have hl : lv_has ls 6 [(4, .int (iZ ((((k + 1) : Nat) : Int)))), (5, .int (iZ ((((k + 1) : Nat) : Int)))), (0, .ref (o)), (1, .int (iZ (x))), (2, .int (iZ (y))), (3, .int (iZ (t)))] := hl
                  refine pb_goto C dX3_winding_119 (tgt := 5) (by decide) ?_
                  exact pb_V.mono (by omega) (by omega) (ih5 _ (by omega) (k + 1) t rfl (by omega) (by rw [wsum, ← ht]; unfold wc; (repeat' split) <;> first | omega | (simp_all; done) | (exfalso; simp_all; omega)) ls (lv_sub hl [2, 3, 4, 5, 0] rfl))
                · refine pb_iinc C dX3_winding_113 hl (j := 4) (x := t) rfl (by decide) rfl fun ls hl => ?_
                  have hl : lv_has ls 6 [(3, .int (iZ ((t + (-1))))), (5, .int (iZ ((((k + 1) : Nat) : Int)))), (0, .ref (o)), (1, .int (iZ (x))), (2, .int (iZ (y))), (4, .int (iZ (((k : Nat) : Int))))] := hl
                  refine pb_iinc C dX3_winding_116 hl (j := 5) (x := (((k : Nat) : Int))) rfl (by decide) rfl fun ls hl => ?_
                  have hl : lv_has ls 6 [(4, .int (iZ ((((k + 1) : Nat) : Int)))), (3, .int (iZ ((t + (-1))))), (5, .int (iZ ((((k + 1) : Nat) : Int)))), (0, .ref (o)), (1, .int (iZ (x))), (2, .int (iZ (y)))] := hl
                  refine pb_goto C dX3_winding_119 (tgt := 5) (by decide) ?_
                  exact pb_V.mono (by omega) (by omega) (ih5 _ (by omega) (k + 1) (t + (-1)) rfl (by omega) (by rw [wsum, ← ht]; unfold wc; (repeat' split) <;> first | omega | (simp_all; done) | (exfalso; simp_all; omega)) ls (lv_sub hl [3, 4, 5, 1, 0] rfl))
            · refine pb_aload_n C dX3_winding_77 rfl (lv_at hl 1 rfl) ?_
              refine pb_get C in_X3 hO.r (ci := 2) rfl 7 (by decide) q1744 (fun _ h9 => h9) (v := .ref (o + 6)) rfl dX3_winding_78 ?_
              refine pb_iload C dX3_winding_81 (lv_at hl 0 rfl) ?_
              refine pb_iald C hA6.b (i := (((k + 1) : Nat) : Int)) (v := .int (iZ ((S.2.2 1 ((k + 1)))))) (by omega) rfl dX3_winding_83 ?_
              refine pb_iload_n C dX3_winding_84 rfl (lv_at hl 3 rfl) ?_
              refine pb_icmp_le C dX3_winding_85 (x := (S.2.2 1 ((k + 1)))) (y := y) (tgt := 91) (by decide) (by omega) (by omega) (fun c85_ => ?_) (fun c85_ => ?_)
              · refine pb_aload_n C dX3_winding_91 rfl (lv_at hl 1 rfl) ?_
                refine pb_get C in_X3 hO.r (ci := 2) rfl 7 (by decide) q1744 (fun _ h9 => h9) (v := .ref (o + 6)) rfl dX3_winding_92 ?_
                refine pb_iload C dX3_winding_95 (lv_at hl 0 rfl) ?_
                refine pb_iald C hA6.b (i := (((k + 1) : Nat) : Int)) (v := .int (iZ ((S.2.2 1 ((k + 1)))))) (by omega) rfl dX3_winding_97 ?_
                refine pb_iload_n C dX3_winding_98 rfl (lv_at hl 3 rfl) ?_
                refine pb_icmp_gt C dX3_winding_99 (x := (S.2.2 1 ((k + 1)))) (y := y) (tgt := 116) (by decide) (by omega) (by omega) (fun c99_ => ?_) (fun c99_ => ?_)
                · refine pb_iinc C dX3_winding_116 hl (j := 5) (x := (((k : Nat) : Int))) rfl (by decide) rfl fun ls hl => ?_
                  have hl : lv_has ls 6 [(4, .int (iZ ((((k + 1) : Nat) : Int)))), (5, .int (iZ ((((k + 1) : Nat) : Int)))), (0, .ref (o)), (1, .int (iZ (x))), (2, .int (iZ (y))), (3, .int (iZ (t)))] := hl
                  refine pb_goto C dX3_winding_119 (tgt := 5) (by decide) ?_
                  exact pb_V.mono (by omega) (by omega) (ih5 _ (by omega) (k + 1) t rfl (by omega) (by rw [wsum, ← ht]; unfold wc; (repeat' split) <;> first | omega | (simp_all; done) | (exfalso; simp_all; omega)) ls (lv_sub hl [2, 3, 4, 5, 0] rfl))
                · refine pb_aload_n C dX3_winding_102 rfl (lv_at hl 1 rfl) ?_
                  refine pb_get C in_X3 hO.r (ci := 2) rfl 7 (by decide) q1744 (fun _ h9 => h9) (v := .ref (o + 6)) rfl dX3_winding_103 ?_
                  refine pb_iload C dX3_winding_106 (lv_at hl 5 rfl) ?_
                  refine pb_iald C hA6.b (i := ((k : Nat) : Int)) (v := .int (iZ ((S.2.2 1 k)))) (by omega) rfl dX3_winding_108 ?_
                  refine pb_iload_n C dX3_winding_109 rfl (lv_at hl 3 rfl) ?_
                  refine pb_icmp_le C dX3_winding_110 (x := (S.2.2 1 k)) (y := y) (tgt := 116) (by decide) (by omega) (by omega) (fun c110_ => ?_) (fun c110_ => ?_)
                  · refine pb_iinc C dX3_winding_116 hl (j := 5) (x := (((k : Nat) : Int))) rfl (by decide) rfl fun ls hl => ?_
                    have hl : lv_has ls 6 [(4, .int (iZ ((((k + 1) : Nat) : Int)))), (5, .int (iZ ((((k + 1) : Nat) : Int)))), (0, .ref (o)), (1, .int (iZ (x))), (2, .int (iZ (y))), (3, .int (iZ (t)))] := hl
                    refine pb_goto C dX3_winding_119 (tgt := 5) (by decide) ?_
                    exact pb_V.mono (by omega) (by omega) (ih5 _ (by omega) (k + 1) t rfl (by omega) (by rw [wsum, ← ht]; unfold wc; (repeat' split) <;> first | omega | (simp_all; done) | (exfalso; simp_all; omega)) ls (lv_sub hl [2, 3, 4, 5, 0] rfl))
                  · refine pb_iinc C dX3_winding_113 hl (j := 4) (x := t) rfl (by decide) rfl fun ls hl => ?_
                    have hl : lv_has ls 6 [(3, .int (iZ ((t + (-1))))), (5, .int (iZ ((((k + 1) : Nat) : Int)))), (0, .ref (o)), (1, .int (iZ (x))), (2, .int (iZ (y))), (4, .int (iZ (((k : Nat) : Int))))] := hl
                    refine pb_iinc C dX3_winding_116 hl (j := 5) (x := (((k : Nat) : Int))) rfl (by decide) rfl fun ls hl => ?_
                    have hl : lv_has ls 6 [(4, .int (iZ ((((k + 1) : Nat) : Int)))), (3, .int (iZ ((t + (-1))))), (5, .int (iZ ((((k + 1) : Nat) : Int)))), (0, .ref (o)), (1, .int (iZ (x))), (2, .int (iZ (y)))] := hl
                    refine pb_goto C dX3_winding_119 (tgt := 5) (by decide) ?_
                    exact pb_V.mono (by omega) (by omega) (ih5 _ (by omega) (k + 1) (t + (-1)) rfl (by omega) (by rw [wsum, ← ht]; unfold wc; (repeat' split) <;> first | omega | (simp_all; done) | (exfalso; simp_all; omega)) ls (lv_sub hl [3, 4, 5, 1, 0] rfl))
              · refine pb_iinc C dX3_winding_88 hl (j := 4) (x := t) rfl (by decide) rfl fun ls hl => ?_
                have hl : lv_has ls 6 [(3, .int (iZ ((t + 1)))), (5, .int (iZ ((((k + 1) : Nat) : Int)))), (0, .ref (o)), (1, .int (iZ (x))), (2, .int (iZ (y))), (4, .int (iZ (((k : Nat) : Int))))] := hl
                refine pb_aload_n C dX3_winding_91 rfl (lv_at hl 2 rfl) ?_
                refine pb_get C in_X3 hO.r (ci := 2) rfl 7 (by decide) q1744 (fun _ h9 => h9) (v := .ref (o + 6)) rfl dX3_winding_92 ?_
                refine pb_iload C dX3_winding_95 (lv_at hl 1 rfl) ?_
                refine pb_iald C hA6.b (i := (((k + 1) : Nat) : Int)) (v := .int (iZ ((S.2.2 1 ((k + 1)))))) (by omega) rfl dX3_winding_97 ?_
                refine pb_iload_n C dX3_winding_98 rfl (lv_at hl 4 rfl) ?_
                refine pb_icmp_gt C dX3_winding_99 (x := (S.2.2 1 ((k + 1)))) (y := y) (tgt := 116) (by decide) (by omega) (by omega) (fun c99_ => ?_) (fun c99_ => ?_)
                · refine pb_iinc C dX3_winding_116 hl (j := 5) (x := (((k : Nat) : Int))) rfl (by decide) rfl fun ls hl => ?_
                  have hl : lv_has ls 6 [(4, .int (iZ ((((k + 1) : Nat) : Int)))), (3, .int (iZ ((t + 1)))), (5, .int (iZ ((((k + 1) : Nat) : Int)))), (0, .ref (o)), (1, .int (iZ (x))), (2, .int (iZ (y)))] := hl
                  refine pb_goto C dX3_winding_119 (tgt := 5) (by decide) ?_
                  exact pb_V.mono (by omega) (by omega) (ih5 _ (by omega) (k + 1) (t + 1) rfl (by omega) (by rw [wsum, ← ht]; unfold wc; (repeat' split) <;> first | omega | (simp_all; done) | (exfalso; simp_all; omega)) ls (lv_sub hl [3, 4, 5, 1, 0] rfl))
                · refine pb_aload_n C dX3_winding_102 rfl (lv_at hl 2 rfl) ?_
                  refine pb_get C in_X3 hO.r (ci := 2) rfl 7 (by decide) q1744 (fun _ h9 => h9) (v := .ref (o + 6)) rfl dX3_winding_103 ?_
                  refine pb_iload C dX3_winding_106 (lv_at hl 5 rfl) ?_
                  refine pb_iald C hA6.b (i := ((k : Nat) : Int)) (v := .int (iZ ((S.2.2 1 k)))) (by omega) rfl dX3_winding_108 ?_
                  refine pb_iload_n C dX3_winding_109 rfl (lv_at hl 4 rfl) ?_
                  refine pb_icmp_le C dX3_winding_110 (x := (S.2.2 1 k)) (y := y) (tgt := 116) (by decide) (by omega) (by omega) (fun c110_ => ?_) (fun c110_ => ?_)
                  · refine pb_iinc C dX3_winding_116 hl (j := 5) (x := (((k : Nat) : Int))) rfl (by decide) rfl fun ls hl => ?_
                    have hl : lv_has ls 6 [(4, .int (iZ ((((k + 1) : Nat) : Int)))), (3, .int (iZ ((t + 1)))), (5, .int (iZ ((((k + 1) : Nat) : Int)))), (0, .ref (o)), (1, .int (iZ (x))), (2, .int (iZ (y)))] := hl
                    refine pb_goto C dX3_winding_119 (tgt := 5) (by decide) ?_
                    exact pb_V.mono (by omega) (by omega) (ih5 _ (by omega) (k + 1) (t + 1) rfl (by omega) (by rw [wsum, ← ht]; unfold wc; (repeat' split) <;> first | omega | (simp_all; done) | (exfalso; simp_all; omega)) ls (lv_sub hl [3, 4, 5, 1, 0] rfl))
                  · refine pb_iinc C dX3_winding_113 hl (j := 0) (x := ((t + 1))) rfl (by decide) rfl fun ls hl => ?_
                    have hl : lv_has ls 6 [(3, .int (iZ (((t + 1) + (-1))))), (5, .int (iZ ((((k + 1) : Nat) : Int)))), (0, .ref (o)), (1, .int (iZ (x))), (2, .int (iZ (y))), (4, .int (iZ (((k : Nat) : Int))))] := hl
                    refine pb_iinc C dX3_winding_116 hl (j := 5) (x := (((k : Nat) : Int))) rfl (by decide) rfl fun ls hl => ?_
                    have hl : lv_has ls 6 [(4, .int (iZ ((((k + 1) : Nat) : Int)))), (3, .int (iZ (((t + 1) + (-1))))), (5, .int (iZ ((((k + 1) : Nat) : Int)))), (0, .ref (o)), (1, .int (iZ (x))), (2, .int (iZ (y)))] := hl
                    refine pb_goto C dX3_winding_119 (tgt := 5) (by decide) ?_
                    exact pb_V.mono (by omega) (by omega) (ih5 _ (by omega) (k + 1) ((t + 1) + (-1)) rfl (by omega) (by rw [wsum, ← ht]; unfold wc; (repeat' split) <;> first | omega | (simp_all; done) | (exfalso; simp_all; omega)) ls (lv_sub hl [3, 4, 5, 1, 0] rfl))
          · refine pb_goto C dX3_winding_63 (tgt := 116) (by decide) ?_
            refine pb_iinc C dX3_winding_116 hl (j := 5) (x := (((k : Nat) : Int))) rfl (by decide) rfl fun ls hl => ?_
            have hl : lv_has ls 6 [(4, .int (iZ ((((k + 1) : Nat) : Int)))), (5, .int (iZ ((((k + 1) : Nat) : Int)))), (0, .ref (o)), (1, .int (iZ (x))), (2, .int (iZ (y))), (3, .int (iZ (t)))] := hl
            refine pb_goto C dX3_winding_119 (tgt := 5) (by decide) ?_
            exact pb_V.mono (by omega) (by omega) (ih5 _ (by omega) (k + 1) t rfl (by omega) (by rw [wsum, ← ht]; unfold wc; (repeat' split) <;> first | omega | (simp_all; done) | (exfalso; simp_all; omega)) ls (lv_sub hl [2, 3, 4, 5, 0] rfl))
      · refine pb_ic C dX3_winding_25 ?_
        refine pb_goto C dX3_winding_26 (tgt := 33) (by decide) ?_
        refine pb_istore C dX3_winding_33 hl (by decide) rfl fun ls hl => ?_
        have hl : lv_has ls 6 [(5, .int (iZ (0))), (0, .ref (o)), (1, .int (iZ (x))), (2, .int (iZ (y))), (3, .int (iZ (t))), (4, .int (iZ (((k : Nat) : Int))))] := hl
        have hPo := hP 0 (by omega)
        refine pb_aload_n C dX3_winding_35 rfl (lv_at hl 1 rfl) ?_
        refine pb_get C in_X3 hO.r (ci := 2) rfl 6 (by decide) q1743 (fun _ h9 => h9) (v := .ref (o + 5)) rfl dX3_winding_36 ?_
        refine pb_iload C dX3_winding_39 (lv_at hl 5 rfl) ?_
        refine pb_iald C hA5.b (i := ((k : Nat) : Int)) (v := .int (iZ ((S.2.2 0 k)))) (by omega) rfl dX3_winding_41 ?_
        refine pb_aload_n C dX3_winding_42 rfl (lv_at hl 1 rfl) ?_
        refine pb_get C in_X3 hO.r (ci := 2) rfl 6 (by decide) q1743 (fun _ h9 => h9) (v := .ref (o + 5)) rfl dX3_winding_43 ?_
        refine pb_iload C dX3_winding_46 (lv_at hl 0 rfl) ?_
        refine pb_iald C hA5.b (i := 0) (v := .int (iZ ((S.2.2 0 0)))) (by omega) rfl dX3_winding_48 ?_
        refine pb_icmp_ne C dX3_winding_49 (x := (S.2.2 0 k)) (y := (S.2.2 0 0)) (tgt := 116) (by decide) (by omega) (by omega) (fun c49_ => ?_) (fun c49_ => ?_)
        · refine pb_iinc C dX3_winding_116 hl (j := 5) (x := (((k : Nat) : Int))) rfl (by decide) rfl fun ls hl => ?_
          have hl : lv_has ls 6 [(4, .int (iZ ((((k + 1) : Nat) : Int)))), (5, .int (iZ (0))), (0, .ref (o)), (1, .int (iZ (x))), (2, .int (iZ (y))), (3, .int (iZ (t)))] := hl
          refine pb_goto C dX3_winding_119 (tgt := 5) (by decide) ?_
          exact pb_V.mono (by omega) (by omega) (ih5 _ (by omega) (k + 1) t rfl (by omega) (by rw [wsum, ← ht]; unfold wc; (repeat' split) <;> first | omega | (simp_all; done) | (exfalso; simp_all; omega)) ls (lv_sub hl [2, 3, 4, 5, 0] rfl))
        · refine pb_aload_n C dX3_winding_52 rfl (lv_at hl 1 rfl) ?_
          refine pb_get C in_X3 hO.r (ci := 2) rfl 6 (by decide) q1743 (fun _ h9 => h9) (v := .ref (o + 5)) rfl dX3_winding_53 ?_
          refine pb_iload C dX3_winding_56 (lv_at hl 5 rfl) ?_
          refine pb_iald C hA5.b (i := ((k : Nat) : Int)) (v := .int (iZ ((S.2.2 0 k)))) (by omega) rfl dX3_winding_58 ?_
          refine pb_iload_n C dX3_winding_59 rfl (lv_at hl 2 rfl) ?_
          refine pb_icmp_gt C dX3_winding_60 (x := (S.2.2 0 k)) (y := x) (tgt := 66) (by decide) (by omega) (by omega) (fun c60_ => ?_) (fun c60_ => ?_)
          · refine pb_aload_n C dX3_winding_66 rfl (lv_at hl 1 rfl) ?_
            refine pb_get C in_X3 hO.r (ci := 2) rfl 7 (by decide) q1744 (fun _ h9 => h9) (v := .ref (o + 6)) rfl dX3_winding_67 ?_
            refine pb_iload C dX3_winding_70 (lv_at hl 5 rfl) ?_
            refine pb_iald C hA6.b (i := ((k : Nat) : Int)) (v := .int (iZ ((S.2.2 1 k)))) (by omega) rfl dX3_winding_72 ?_
            refine pb_iload_n C dX3_winding_73 rfl (lv_at hl 3 rfl) ?_
            refine pb_icmp_gt C dX3_winding_74 (x := (S.2.2 1 k)) (y := y) (tgt := 91) (by decide) (by omega) (by omega) (fun c74_ => ?_) (fun c74_ => ?_)
            · refine pb_aload_n C dX3_winding_91 rfl (lv_at hl 1 rfl) ?_
              refine pb_get C in_X3 hO.r (ci := 2) rfl 7 (by decide) q1744 (fun _ h9 => h9) (v := .ref (o + 6)) rfl dX3_winding_92 ?_
              refine pb_iload C dX3_winding_95 (lv_at hl 0 rfl) ?_
              refine pb_iald C hA6.b (i := 0) (v := .int (iZ ((S.2.2 1 0)))) (by omega) rfl dX3_winding_97 ?_
              refine pb_iload_n C dX3_winding_98 rfl (lv_at hl 3 rfl) ?_
              refine pb_icmp_gt C dX3_winding_99 (x := (S.2.2 1 0)) (y := y) (tgt := 116) (by decide) (by omega) (by omega) (fun c99_ => ?_) (fun c99_ => ?_)
              · refine pb_iinc C dX3_winding_116 hl (j := 5) (x := (((k : Nat) : Int))) rfl (by decide) rfl fun ls hl => ?_
                have hl : lv_has ls 6 [(4, .int (iZ ((((k + 1) : Nat) : Int)))), (5, .int (iZ (0))), (0, .ref (o)), (1, .int (iZ (x))), (2, .int (iZ (y))), (3, .int (iZ (t)))] := hl
                refine pb_goto C dX3_winding_119 (tgt := 5) (by decide) ?_
                exact pb_V.mono (by omega) (by omega) (ih5 _ (by omega) (k + 1) t rfl (by omega) (by rw [wsum, ← ht]; unfold wc; (repeat' split) <;> first | omega | (simp_all; done) | (exfalso; simp_all; omega)) ls (lv_sub hl [2, 3, 4, 5, 0] rfl))
              · refine pb_aload_n C dX3_winding_102 rfl (lv_at hl 1 rfl) ?_
                refine pb_get C in_X3 hO.r (ci := 2) rfl 7 (by decide) q1744 (fun _ h9 => h9) (v := .ref (o + 6)) rfl dX3_winding_103 ?_
                refine pb_iload C dX3_winding_106 (lv_at hl 5 rfl) ?_
                refine pb_iald C hA6.b (i := ((k : Nat) : Int)) (v := .int (iZ ((S.2.2 1 k)))) (by omega) rfl dX3_winding_108 ?_
                refine pb_iload_n C dX3_winding_109 rfl (lv_at hl 3 rfl) ?_
                refine pb_icmp_le C dX3_winding_110 (x := (S.2.2 1 k)) (y := y) (tgt := 116) (by decide) (by omega) (by omega) (fun c110_ => ?_) (fun c110_ => ?_)
                · refine pb_iinc C dX3_winding_116 hl (j := 5) (x := (((k : Nat) : Int))) rfl (by decide) rfl fun ls hl => ?_
                  have hl : lv_has ls 6 [(4, .int (iZ ((((k + 1) : Nat) : Int)))), (5, .int (iZ (0))), (0, .ref (o)), (1, .int (iZ (x))), (2, .int (iZ (y))), (3, .int (iZ (t)))] := hl
                  refine pb_goto C dX3_winding_119 (tgt := 5) (by decide) ?_
                  exact pb_V.mono (by omega) (by omega) (ih5 _ (by omega) (k + 1) t rfl (by omega) (by rw [wsum, ← ht]; unfold wc; (repeat' split) <;> first | omega | (simp_all; done) | (exfalso; simp_all; omega)) ls (lv_sub hl [2, 3, 4, 5, 0] rfl))
                · refine pb_iinc C dX3_winding_113 hl (j := 4) (x := t) rfl (by decide) rfl fun ls hl => ?_
                  have hl : lv_has ls 6 [(3, .int (iZ ((t + (-1))))), (5, .int (iZ (0))), (0, .ref (o)), (1, .int (iZ (x))), (2, .int (iZ (y))), (4, .int (iZ (((k : Nat) : Int))))] := hl
                  refine pb_iinc C dX3_winding_116 hl (j := 5) (x := (((k : Nat) : Int))) rfl (by decide) rfl fun ls hl => ?_
                  have hl : lv_has ls 6 [(4, .int (iZ ((((k + 1) : Nat) : Int)))), (3, .int (iZ ((t + (-1))))), (5, .int (iZ (0))), (0, .ref (o)), (1, .int (iZ (x))), (2, .int (iZ (y)))] := hl
                  refine pb_goto C dX3_winding_119 (tgt := 5) (by decide) ?_
                  exact pb_V.mono (by omega) (by omega) (ih5 _ (by omega) (k + 1) (t + (-1)) rfl (by omega) (by rw [wsum, ← ht]; unfold wc; (repeat' split) <;> first | omega | (simp_all; done) | (exfalso; simp_all; omega)) ls (lv_sub hl [3, 4, 5, 1, 0] rfl))
            · refine pb_aload_n C dX3_winding_77 rfl (lv_at hl 1 rfl) ?_
              refine pb_get C in_X3 hO.r (ci := 2) rfl 7 (by decide) q1744 (fun _ h9 => h9) (v := .ref (o + 6)) rfl dX3_winding_78 ?_
              refine pb_iload C dX3_winding_81 (lv_at hl 0 rfl) ?_
              refine pb_iald C hA6.b (i := 0) (v := .int (iZ ((S.2.2 1 0)))) (by omega) rfl dX3_winding_83 ?_
              refine pb_iload_n C dX3_winding_84 rfl (lv_at hl 3 rfl) ?_
              refine pb_icmp_le C dX3_winding_85 (x := (S.2.2 1 0)) (y := y) (tgt := 91) (by decide) (by omega) (by omega) (fun c85_ => ?_) (fun c85_ => ?_)
              · refine pb_aload_n C dX3_winding_91 rfl (lv_at hl 1 rfl) ?_
                refine pb_get C in_X3 hO.r (ci := 2) rfl 7 (by decide) q1744 (fun _ h9 => h9) (v := .ref (o + 6)) rfl dX3_winding_92 ?_
                refine pb_iload C dX3_winding_95 (lv_at hl 0 rfl) ?_
                refine pb_iald C hA6.b (i := 0) (v := .int (iZ ((S.2.2 1 0)))) (by omega) rfl dX3_winding_97 ?_
                refine pb_iload_n C dX3_winding_98 rfl (lv_at hl 3 rfl) ?_
                refine pb_icmp_gt C dX3_winding_99 (x := (S.2.2 1 0)) (y := y) (tgt := 116) (by decide) (by omega) (by omega) (fun c99_ => ?_) (fun c99_ => ?_)
                · refine pb_iinc C dX3_winding_116 hl (j := 5) (x := (((k : Nat) : Int))) rfl (by decide) rfl fun ls hl => ?_
                  have hl : lv_has ls 6 [(4, .int (iZ ((((k + 1) : Nat) : Int)))), (5, .int (iZ (0))), (0, .ref (o)), (1, .int (iZ (x))), (2, .int (iZ (y))), (3, .int (iZ (t)))] := hl
                  refine pb_goto C dX3_winding_119 (tgt := 5) (by decide) ?_
                  exact pb_V.mono (by omega) (by omega) (ih5 _ (by omega) (k + 1) t rfl (by omega) (by rw [wsum, ← ht]; unfold wc; (repeat' split) <;> first | omega | (simp_all; done) | (exfalso; simp_all; omega)) ls (lv_sub hl [2, 3, 4, 5, 0] rfl))
                · refine pb_aload_n C dX3_winding_102 rfl (lv_at hl 1 rfl) ?_
                  refine pb_get C in_X3 hO.r (ci := 2) rfl 7 (by decide) q1744 (fun _ h9 => h9) (v := .ref (o + 6)) rfl dX3_winding_103 ?_
                  refine pb_iload C dX3_winding_106 (lv_at hl 5 rfl) ?_
                  refine pb_iald C hA6.b (i := ((k : Nat) : Int)) (v := .int (iZ ((S.2.2 1 k)))) (by omega) rfl dX3_winding_108 ?_
                  refine pb_iload_n C dX3_winding_109 rfl (lv_at hl 3 rfl) ?_
                  refine pb_icmp_le C dX3_winding_110 (x := (S.2.2 1 k)) (y := y) (tgt := 116) (by decide) (by omega) (by omega) (fun c110_ => ?_) (fun c110_ => ?_)
                  · refine pb_iinc C dX3_winding_116 hl (j := 5) (x := (((k : Nat) : Int))) rfl (by decide) rfl fun ls hl => ?_
                    have hl : lv_has ls 6 [(4, .int (iZ ((((k + 1) : Nat) : Int)))), (5, .int (iZ (0))), (0, .ref (o)), (1, .int (iZ (x))), (2, .int (iZ (y))), (3, .int (iZ (t)))] := hl
                    refine pb_goto C dX3_winding_119 (tgt := 5) (by decide) ?_
                    exact pb_V.mono (by omega) (by omega) (ih5 _ (by omega) (k + 1) t rfl (by omega) (by rw [wsum, ← ht]; unfold wc; (repeat' split) <;> first | omega | (simp_all; done) | (exfalso; simp_all; omega)) ls (lv_sub hl [2, 3, 4, 5, 0] rfl))
                  · refine pb_iinc C dX3_winding_113 hl (j := 4) (x := t) rfl (by decide) rfl fun ls hl => ?_
                    have hl : lv_has ls 6 [(3, .int (iZ ((t + (-1))))), (5, .int (iZ (0))), (0, .ref (o)), (1, .int (iZ (x))), (2, .int (iZ (y))), (4, .int (iZ (((k : Nat) : Int))))] := hl
                    refine pb_iinc C dX3_winding_116 hl (j := 5) (x := (((k : Nat) : Int))) rfl (by decide) rfl fun ls hl => ?_
                    have hl : lv_has ls 6 [(4, .int (iZ ((((k + 1) : Nat) : Int)))), (3, .int (iZ ((t + (-1))))), (5, .int (iZ (0))), (0, .ref (o)), (1, .int (iZ (x))), (2, .int (iZ (y)))] := hl
                    refine pb_goto C dX3_winding_119 (tgt := 5) (by decide) ?_
                    exact pb_V.mono (by omega) (by omega) (ih5 _ (by omega) (k + 1) (t + (-1)) rfl (by omega) (by rw [wsum, ← ht]; unfold wc; (repeat' split) <;> first | omega | (simp_all; done) | (exfalso; simp_all; omega)) ls (lv_sub hl [3, 4, 5, 1, 0] rfl))
              · refine pb_iinc C dX3_winding_88 hl (j := 4) (x := t) rfl (by decide) rfl fun ls hl => ?_
                have hl : lv_has ls 6 [(3, .int (iZ ((t + 1)))), (5, .int (iZ (0))), (0, .ref (o)), (1, .int (iZ (x))), (2, .int (iZ (y))), (4, .int (iZ (((k : Nat) : Int))))] := hl
                refine pb_aload_n C dX3_winding_91 rfl (lv_at hl 2 rfl) ?_
                refine pb_get C in_X3 hO.r (ci := 2) rfl 7 (by decide) q1744 (fun _ h9 => h9) (v := .ref (o + 6)) rfl dX3_winding_92 ?_
                refine pb_iload C dX3_winding_95 (lv_at hl 1 rfl) ?_
                refine pb_iald C hA6.b (i := 0) (v := .int (iZ ((S.2.2 1 0)))) (by omega) rfl dX3_winding_97 ?_
                refine pb_iload_n C dX3_winding_98 rfl (lv_at hl 4 rfl) ?_
                refine pb_icmp_gt C dX3_winding_99 (x := (S.2.2 1 0)) (y := y) (tgt := 116) (by decide) (by omega) (by omega) (fun c99_ => ?_) (fun c99_ => ?_)
                · refine pb_iinc C dX3_winding_116 hl (j := 5) (x := (((k : Nat) : Int))) rfl (by decide) rfl fun ls hl => ?_
                  have hl : lv_has ls 6 [(4, .int (iZ ((((k + 1) : Nat) : Int)))), (3, .int (iZ ((t + 1)))), (5, .int (iZ (0))), (0, .ref (o)), (1, .int (iZ (x))), (2, .int (iZ (y)))] := hl
                  refine pb_goto C dX3_winding_119 (tgt := 5) (by decide) ?_
                  exact pb_V.mono (by omega) (by omega) (ih5 _ (by omega) (k + 1) (t + 1) rfl (by omega) (by rw [wsum, ← ht]; unfold wc; (repeat' split) <;> first | omega | (simp_all; done) | (exfalso; simp_all; omega)) ls (lv_sub hl [3, 4, 5, 1, 0] rfl))
                · refine pb_aload_n C dX3_winding_102 rfl (lv_at hl 2 rfl) ?_
                  refine pb_get C in_X3 hO.r (ci := 2) rfl 7 (by decide) q1744 (fun _ h9 => h9) (v := .ref (o + 6)) rfl dX3_winding_103 ?_
                  refine pb_iload C dX3_winding_106 (lv_at hl 5 rfl) ?_
                  refine pb_iald C hA6.b (i := ((k : Nat) : Int)) (v := .int (iZ ((S.2.2 1 k)))) (by omega) rfl dX3_winding_108 ?_
                  refine pb_iload_n C dX3_winding_109 rfl (lv_at hl 4 rfl) ?_
                  refine pb_icmp_le C dX3_winding_110 (x := (S.2.2 1 k)) (y := y) (tgt := 116) (by decide) (by omega) (by omega) (fun c110_ => ?_) (fun c110_ => ?_)
                  · refine pb_iinc C dX3_winding_116 hl (j := 5) (x := (((k : Nat) : Int))) rfl (by decide) rfl fun ls hl => ?_
                    have hl : lv_has ls 6 [(4, .int (iZ ((((k + 1) : Nat) : Int)))), (3, .int (iZ ((t + 1)))), (5, .int (iZ (0))), (0, .ref (o)), (1, .int (iZ (x))), (2, .int (iZ (y)))] := hl
                    refine pb_goto C dX3_winding_119 (tgt := 5) (by decide) ?_
                    exact pb_V.mono (by omega) (by omega) (ih5 _ (by omega) (k + 1) (t + 1) rfl (by omega) (by rw [wsum, ← ht]; unfold wc; (repeat' split) <;> first | omega | (simp_all; done) | (exfalso; simp_all; omega)) ls (lv_sub hl [3, 4, 5, 1, 0] rfl))
                  · refine pb_iinc C dX3_winding_113 hl (j := 0) (x := ((t + 1))) rfl (by decide) rfl fun ls hl => ?_
                    have hl : lv_has ls 6 [(3, .int (iZ (((t + 1) + (-1))))), (5, .int (iZ (0))), (0, .ref (o)), (1, .int (iZ (x))), (2, .int (iZ (y))), (4, .int (iZ (((k : Nat) : Int))))] := hl
                    refine pb_iinc C dX3_winding_116 hl (j := 5) (x := (((k : Nat) : Int))) rfl (by decide) rfl fun ls hl => ?_
                    have hl : lv_has ls 6 [(4, .int (iZ ((((k + 1) : Nat) : Int)))), (3, .int (iZ (((t + 1) + (-1))))), (5, .int (iZ (0))), (0, .ref (o)), (1, .int (iZ (x))), (2, .int (iZ (y)))] := hl
                    refine pb_goto C dX3_winding_119 (tgt := 5) (by decide) ?_
                    exact pb_V.mono (by omega) (by omega) (ih5 _ (by omega) (k + 1) ((t + 1) + (-1)) rfl (by omega) (by rw [wsum, ← ht]; unfold wc; (repeat' split) <;> first | omega | (simp_all; done) | (exfalso; simp_all; omega)) ls (lv_sub hl [3, 4, 5, 1, 0] rfl))
          · refine pb_goto C dX3_winding_63 (tgt := 116) (by decide) ?_
            refine pb_iinc C dX3_winding_116 hl (j := 5) (x := (((k : Nat) : Int))) rfl (by decide) rfl fun ls hl => ?_
            have hl : lv_has ls 6 [(4, .int (iZ ((((k + 1) : Nat) : Int)))), (5, .int (iZ (0))), (0, .ref (o)), (1, .int (iZ (x))), (2, .int (iZ (y))), (3, .int (iZ (t)))] := hl
            refine pb_goto C dX3_winding_119 (tgt := 5) (by decide) ?_
            exact pb_V.mono (by omega) (by omega) (ih5 _ (by omega) (k + 1) t rfl (by omega) (by rw [wsum, ← ht]; unfold wc; (repeat' split) <;> first | omega | (simp_all; done) | (exfalso; simp_all; omega)) ls (lv_sub hl [2, 3, 4, 5, 0] rfl))
  refine pb_ic C dX3_winding_0 ?_
  refine pb_istore_n C dX3_winding_1 rfl hl (by decide) rfl fun ls hl => ?_
  have hl : lv_has ls 6 [(3, .int (iZ (0))), (0, .ref (o)), (1, .int (iZ (x))), (2, .int (iZ (y)))] := hl
  refine pb_ic C dX3_winding_2 ?_
  refine pb_istore C dX3_winding_3 hl (by decide) rfl fun ls hl => ?_
  have hl : lv_has ls 6 [(4, .int (iZ (0))), (3, .int (iZ (0))), (0, .ref (o)), (1, .int (iZ (x))), (2, .int (iZ (y)))] := hl
  exact pb_V.mono (by omega) (by omega) (L5 _ 0 0 rfl (by omega) rfl ls (lv_sub hl [2, 3, 4, 1, 0] rfl))

set_option maxHeartbeats 1000000 in
theorem met_X3_closePath {w : pb_W} (l : Launch) {H0 : Heap} (o : Nat) (S : mS) (hM : MW w H0 o S) (s : Nat) (hs : s < 8) (hb : mok S) (odd : Bool) (n : Nat) (hn : S.1 1 = ((n : Nat) : Int)) (hP : ∀ i, i < n → (0 ≤ S.2.2 0 i ∧ S.2.2 0 i ≤ 24) ∧ 0 ≤ S.2.2 1 i ∧ S.2.2 1 i ≤ 24) (h1 : 4 ≤ n) (h2 : n ≤ 40) (hq : ¬ (S.2.2 0 0 = S.2.2 0 (n - 1) ↔ S.2.2 1 0 = S.2.2 1 (n - 1))) : pb_M w l yX3_closePath cX3_closePath 6 (some .int) 6 (0) (0) [.ref (o), .int (iZ (((s : Nat) : Int))), .int (iZ ((bI (odd))))] H0 (pb_qi (fun z H1 => z = ((cnt (mg (mB (mI (mB (mI S 0 0) 1 (mdF (wfill (S.2.2 0) (S.2.2 1) n odd) (S.2.1 1) 24)) 1 0) 0 (rowsF (mI (mB (mI S 0 0) 1 (mdF (wfill (S.2.2 0) (S.2.2 1) n odd) (S.2.1 1) 24)) 1 0) s 0 24 (mdF (wfill (S.2.2 0) (S.2.2 1) n odd) (S.2.1 1) 24))) s) : Nat) : Int) ∧ MW w H1 o (mB (mI (mB (mI S 0 0) 1 (mdF (wfill (S.2.2 0) (S.2.2 1) n odd) (S.2.1 1) 24)) 1 0) 0 (rowsF (mI (mB (mI S 0 0) 1 (mdF (wfill (S.2.2 0) (S.2.2 1) n odd) (S.2.1 1) 24)) 1 0) s 0 24 (mdF (wfill (S.2.2 0) (S.2.2 1) n odd) (S.2.1 1) 24))) ∧ mF o H0 H1)) := by
  refine pb_of (by decide +kernel) (Nat.le_of_ble_eq_true rfl) ?_
  intro p_ e_ s_ m_ ar_ bl_ me_ co_ ls C hh hG hl
  have hl : lv_has ls 6 [(0, .ref (o)), (1, .int (iZ (((s : Nat) : Int)))), (2, .int (iZ ((bI (odd)))))] := hl
  have hM0 := hM; obtain ⟨hz, hO, hA1, hA2, hA3, hA4, hA5, hA6, hA7, hA8, hA9, hA10, hA11, hA12⟩ := hM0
  have hO : pb_O w H0 o 2 [.int (iZ ((S.1 0))), .int (iZ (((n : Nat) : Int))), .ref (o + 1), .ref (o + 2), .ref (o + 3), .ref (o + 4), .ref (o + 5), .ref (o + 6), .ref (o + 7), .ref (o + 8), .ref (o + 9), .ref (o + 10), .ref (o + 11), .ref (o + 12), .int (iZ ((S.1 2))), .int (iZ ((S.1 3)))] := hn ▸ hO
  have hF : mF o H0 H0 := mF.rf
  have hP0 := hP 0 (by omega)
  have hPn := hP (n - 1) (by omega)
  have L74 : ∀ (n_ : Nat) (k : Nat) (H : Heap), 24 - k = n_ → (pb_G w s_ H) → (k ≤ 24) → (MW w H o (mB (mI S 0 0) 1 (mdF (wfill (S.2.2 0) (S.2.2 1) n odd) (S.2.1 1) k))) → (mF o H0 H) → ∀ (ls : Array Slot), lv_has ls 6 [(0, .ref (o)), (1, .int (iZ (((s : Nat) : Int)))), (2, .int (iZ ((bI (odd))))), (3, .int (iZ (((k : Nat) : Int))))] → pb_V w.2.2.2 p_ l e_ (pb_rm 6 (0) (0)) s_ m_ ar_ bl_ me_ co_ H (0) (0) (pb_E w bl_ ar_ s_ (0) (0) (pb_qi (fun z H1 => z = ((cnt (mg (mB (mI (mB (mI S 0 0) 1 (mdF (wfill (S.2.2 0) (S.2.2 1) n odd) (S.2.1 1) 24)) 1 0) 0 (rowsF (mI (mB (mI S 0 0) 1 (mdF (wfill (S.2.2 0) (S.2.2 1) n odd) (S.2.1 1) 24)) 1 0) s 0 24 (mdF (wfill (S.2.2 0) (S.2.2 1) n odd) (S.2.1 1) 24))) s) : Nat) : Int) ∧ MW w H1 o (mB (mI (mB (mI S 0 0) 1 (mdF (wfill (S.2.2 0) (S.2.2 1) n odd) (S.2.1 1) 24)) 1 0) 0 (rowsF (mI (mB (mI S 0 0) 1 (mdF (wfill (S.2.2 0) (S.2.2 1) n odd) (S.2.1 1) 24)) 1 0) s 0 24 (mdF (wfill (S.2.2 0) (S.2.2 1) n odd) (S.2.1 1) 24))) ∧ mF o H0 H1))) (F0 m_ 74 ls []) := by
    intro n_
    induction n_ using Nat.strongRecOn with
    | _ n_ ih74 =>
    intro k H hm_ hG hk hM hF ls hl
    have hM0 := hM; obtain ⟨hz, hO, hA1, hA2, hA3, hA4, hA5, hA6, hA7, hA8, hA9, hA10, hA11, hA12⟩ := hM0
    have hO : pb_O w H o 2 [.int (iZ ((0))), .int (iZ (((n : Nat) : Int))), .ref (o + 1), .ref (o + 2), .ref (o + 3), .ref (o + 4), .ref (o + 5), .ref (o + 6), .ref (o + 7), .ref (o + 8), .ref (o + 9), .ref (o + 10), .ref (o + 11), .ref (o + 12), .int (iZ ((S.1 2))), .int (iZ ((S.1 3)))] := by rw [show (mB (mI S 0 0) 1 (mdF (wfill (S.2.2 0) (S.2.2 1) n odd) (S.2.1 1) k)).1 1 = ((n : Nat) : Int) from hn] at hO; exact hO
    have hA1 : pb_A w H (o + 1) 0 192 (pb_nf (S.2.1 0)) := hA1
    have hA2 : pb_A w H (o + 2) 0 24 (pb_nf (mdF (wfill (S.2.2 0) (S.2.2 1) n odd) (S.2.1 1) k)) := hA2
    have hA3 : pb_A w H (o + 3) 0 26 (pb_nf (S.2.1 2)) := hA3
    have hA4 : pb_A w H (o + 4) 0 26 (pb_nf (S.2.1 3)) := hA4
    have hA5 : pb_A w H (o + 5) 0 40 (pb_zf (S.2.2 0)) := hA5
    have hA6 : pb_A w H (o + 6) 0 40 (pb_zf (S.2.2 1)) := hA6
    have hA7 : pb_A w H (o + 7) 0 576 (pb_zf (S.2.2 2)) := hA7
    have hA8 : pb_A w H (o + 8) 0 1300 (pb_zf (S.2.2 3)) := hA8
    have hA9 : pb_A w H (o + 9) 0 1300 (pb_zf (S.2.2 4)) := hA9
    have hA10 : pb_A w H (o + 10) 0 400 (pb_zf (S.2.2 5)) := hA10
    have hA11 : pb_A w H (o + 11) 0 400 (pb_zf (S.2.2 6)) := hA11
    have hA12 : pb_A w H (o + 12) 0 625 (pb_nf (S.2.1 4)) := hA12
    have L90 : ∀ (n_ : Nat) (j : Nat) (H : Heap), 24 - j = n_ → (pb_G w s_ H) → (k < 24) → (j ≤ 24) → (MW w H o (mB (mI S 0 0) 1 (mdI (wfill (S.2.2 0) (S.2.2 1) n odd) (S.2.1 1) k j))) → (mF o H0 H) → ∀ (ls : Array Slot), lv_has ls 6 [(0, .ref (o)), (1, .int (iZ (((s : Nat) : Int)))), (2, .int (iZ ((bI (odd))))), (3, .int (iZ (((k : Nat) : Int)))), (4, .int (iZ (((j : Nat) : Int))))] → pb_V w.2.2.2 p_ l e_ (pb_rm 6 (0) (0)) s_ m_ ar_ bl_ me_ co_ H (0) (0) (pb_E w bl_ ar_ s_ (0) (0) (pb_qi (fun z H1 => z = ((cnt (mg (mB (mI (mB (mI S 0 0) 1 (mdF (wfill (S.2.2 0) (S.2.2 1) n odd) (S.2.1 1) 24)) 1 0) 0 (rowsF (mI (mB (mI S 0 0) 1 (mdF (wfill (S.2.2 0) (S.2.2 1) n odd) (S.2.1 1) 24)) 1 0) s 0 24 (mdF (wfill (S.2.2 0) (S.2.2 1) n odd) (S.2.1 1) 24))) s) : Nat) : Int) ∧ MW w H1 o (mB (mI (mB (mI S 0 0) 1 (mdF (wfill (S.2.2 0) (S.2.2 1) n odd) (S.2.1 1) 24)) 1 0) 0 (rowsF (mI (mB (mI S 0 0) 1 (mdF (wfill (S.2.2 0) (S.2.2 1) n odd) (S.2.1 1) 24)) 1 0) s 0 24 (mdF (wfill (S.2.2 0) (S.2.2 1) n odd) (S.2.1 1) 24))) ∧ mF o H0 H1))) (F0 m_ 90 ls []) := by
      intro n_
      induction n_ using Nat.strongRecOn with
      | _ n_ ih90 =>
      intro j H hm_ hG hk2 hj hM hF ls hl
      have hM0 := hM; obtain ⟨hz, hO, hA1, hA2, hA3, hA4, hA5, hA6, hA7, hA8, hA9, hA10, hA11, hA12⟩ := hM0
      have hO : pb_O w H o 2 [.int (iZ ((0))), .int (iZ (((n : Nat) : Int))), .ref (o + 1), .ref (o + 2), .ref (o + 3), .ref (o + 4), .ref (o + 5), .ref (o + 6), .ref (o + 7), .ref (o + 8), .ref (o + 9), .ref (o + 10), .ref (o + 11), .ref (o + 12), .int (iZ ((S.1 2))), .int (iZ ((S.1 3)))] := by rw [show (mB (mI S 0 0) 1 (mdI (wfill (S.2.2 0) (S.2.2 1) n odd) (S.2.1 1) k j)).1 1 = ((n : Nat) : Int) from hn] at hO; exact hO
      have hA1 : pb_A w H (o + 1) 0 192 (pb_nf (S.2.1 0)) := hA1
      have hA2 : pb_A w H (o + 2) 0 24 (pb_nf (mdI (wfill (S.2.2 0) (S.2.2 1) n odd) (S.2.1 1) k j)) := hA2
      have hA3 : pb_A w H (o + 3) 0 26 (pb_nf (S.2.1 2)) := hA3
      have hA4 : pb_A w H (o + 4) 0 26 (pb_nf (S.2.1 3)) := hA4
      have hA5 : pb_A w H (o + 5) 0 40 (pb_zf (S.2.2 0)) := hA5
      have hA6 : pb_A w H (o + 6) 0 40 (pb_zf (S.2.2 1)) := hA6
      have hA7 : pb_A w H (o + 7) 0 576 (pb_zf (S.2.2 2)) := hA7
      have hA8 : pb_A w H (o + 8) 0 1300 (pb_zf (S.2.2 3)) := hA8
      have hA9 : pb_A w H (o + 9) 0 1300 (pb_zf (S.2.2 4)) := hA9
      have hA10 : pb_A w H (o + 10) 0 400 (pb_zf (S.2.2 5)) := hA10
      have hA11 : pb_A w H (o + 11) 0 400 (pb_zf (S.2.2 6)) := hA11
      have hA12 : pb_A w H (o + 12) 0 625 (pb_nf (S.2.1 4)) := hA12
      refine pb_iload C dX3_closePath_90 (lv_at hl 4 rfl) ?_
      refine pb_bip C dX3_closePath_92 (by decide) ?_
      refine pb_icmp_ge C dX3_closePath_94 (x := ((j : Nat) : Int)) (y := 24) (tgt := 144) (by decide) (by omega) (by omega) (fun c94_ => ?_) (fun c94_ => ?_)
      · obtain rfl : j = 24 := by omega
        refine pb_iinc C dX3_closePath_144 hl (j := 3) (x := (((k : Nat) : Int))) rfl (by decide) rfl fun ls hl => ?_
        have hl : lv_has ls 6 [(3, .int (iZ ((((k + 1) : Nat) : Int)))), (0, .ref (o)), (1, .int (iZ (((s : Nat) : Int)))), (2, .int (iZ ((bI (odd))))), (4, .int (iZ (((24 : Nat) : Int))))] := hl
        refine pb_goto C dX3_closePath_147 (tgt := 74) (by decide) ?_
        exact pb_V.mono (by omega) (by omega) (ih74 _ (by omega) (k + 1) H rfl hG (by omega) (by rw [← mdI_24]; exact hM) hF ls (lv_sub hl [1, 2, 3, 0] rfl))
      · refine pb_aload_n C dX3_closePath_97 rfl (lv_at hl 0 rfl) ?_
        refine pb_iload C dX3_closePath_98 (lv_at hl 4 rfl) ?_
        refine pb_iload_n C dX3_closePath_100 rfl (lv_at hl 3 rfl) ?_
        refine pb_go_x (bc' := 0) (bs' := 0) (pb_runV (rest := []) C hG (met_X3_winding l o (mB (mI S 0 0) 1 (mdI (wfill (S.2.2 0) (S.2.2 1) n odd) (S.2.1 1) k j)) hM ((j : Nat) : Int) ((k : Nat) : Int) (by omega) (by omega) n hn hP h2) hO.r (ci := 2) rfl (lw_V q1847 q1849 qs30 q60 q1850) ⟨rfl, hdX3_winding⟩ rfl hl.1 rfl (Nat.le_of_ble_eq_true rfl) ⟨(Nat.le_of_ble_eq_true rfl), (Nat.le_of_ble_eq_true rfl)⟩ dX3_closePath_101) (by omega) (by omega) ?_
        refine pb_istore C dX3_closePath_104 hl (by decide) rfl fun ls hl => ?_
        have hl : lv_has ls 6 [(5, .int (iZ ((wsum (S.2.2 0) (S.2.2 1) n ((j : Nat) : Int) ((k : Nat) : Int) n)))), (0, .ref (o)), (1, .int (iZ (((s : Nat) : Int)))), (2, .int (iZ ((bI (odd))))), (3, .int (iZ (((k : Nat) : Int)))), (4, .int (iZ (((j : Nat) : Int))))] := hl
        have hw_ := wsum_bd (S.2.2 0) (S.2.2 1) n ((j : Nat) : Int) ((k : Nat) : Int) n
        refine pb_iload_n C dX3_closePath_106 rfl (lv_at hl 3 rfl) ?_
        refine pb_ifB_eq C dX3_closePath_107 (tgt := 120) (by decide) (fun c107_ => ?_) (fun c107_ => ?_)
        · skip
          refine pb_iload C dX3_closePath_120 (lv_at hl 0 rfl) ?_
          refine pb_if_eq C dX3_closePath_122 (x := (wsum (S.2.2 0) (S.2.2 1) n ((j : Nat) : Int) ((k : Nat) : Int) n)) (tgt := 138) (by decide) (by omega) (fun c122_ => ?_) (fun c122_ => ?_)
          · have hφ : (wfill (S.2.2 0) (S.2.2 1) n odd) k j = false := by unfold wfill; rw [if_neg (by rw [c107_]; decide)]; exact decide_eq_false (fun z => z c122_)
            refine pb_iinc C dX3_closePath_138 hl (j := 5) (x := (((j : Nat) : Int))) rfl (by decide) rfl fun ls hl => ?_
            have hl : lv_has ls 6 [(4, .int (iZ ((((j + 1) : Nat) : Int)))), (5, .int (iZ ((wsum (S.2.2 0) (S.2.2 1) n ((j : Nat) : Int) ((k : Nat) : Int) n)))), (0, .ref (o)), (1, .int (iZ (((s : Nat) : Int)))), (2, .int (iZ ((bI (odd))))), (3, .int (iZ (((k : Nat) : Int))))] := hl
            refine pb_goto C dX3_closePath_141 (tgt := 90) (by decide) ?_
            exact pb_V.mono (by omega) (by omega) (ih90 _ (by omega) (j + 1) H rfl hG (by omega) (by omega) (by rw [← mdI_f (wfill (S.2.2 0) (S.2.2 1) n odd) (S.2.1 1) k j hφ]; exact hM) hF ls (lv_sub hl [2, 3, 4, 5, 0] rfl))
          · have hφ : (wfill (S.2.2 0) (S.2.2 1) n odd) k j = true := by unfold wfill; rw [if_neg (by rw [c107_]; decide)]; exact decide_eq_true c122_
            refine pb_aload_n C dX3_closePath_125 rfl (lv_at hl 1 rfl) ?_
            refine pb_get C in_X3 hO.r (ci := 2) rfl 3 (by decide) q1740 (fun _ h9 => h9) (v := .ref (o + 2)) rfl dX3_closePath_126 ?_
            refine pb_iload_n C dX3_closePath_129 rfl (lv_at hl 4 rfl) ?_
            refine pb_dup2 C dX3_closePath_130 rfl rfl ?_
            refine pb_iald C hA2.b (i := ((k : Nat) : Int)) (v := .int (iZ ((((msk ((wfill (S.2.2 0) (S.2.2 1) n odd) k) j) : Nat) : Int)))) (by omega) (congrArg (fun n : Nat => Value.int (iZ (n : Int))) (mdI_at (wfill (S.2.2 0) (S.2.2 1) n odd) (S.2.1 1) k j)) dX3_closePath_131 ?_
            refine pb_ic C dX3_closePath_132 ?_
            refine pb_iload C dX3_closePath_133 (lv_at hl 5 rfl) ?_
            refine pb_ishl C dX3_closePath_135 (x := 1) (y := j) (by omega) ?_
            refine pb_ior C dX3_closePath_136 (x := (msk ((wfill (S.2.2 0) (S.2.2 1) n odd) k) j)) (y := (1 <<< j)) ?_
            refine pb_iast C hA2 (i := ((k : Nat) : Int)) (by omega) (by omega) dX3_closePath_137 fun H1_ hu_ hA2 => ?_
            rw [pb_upN, Int.toNat_natCast, mdI_t (wfill (S.2.2 0) (S.2.2 1) n odd) (S.2.1 1) k j hφ rfl] at hA2
            have hG := hG.kept (hu_.z (by omega))
            have hO := hO.kept (hu_.2 _ (by omega))
            have hA1 := hA1.kept (hu_.2 _ (by omega))
            have hA3 := hA3.kept (hu_.2 _ (by omega))
            have hA4 := hA4.kept (hu_.2 _ (by omega))
            have hA5 := hA5.kept (hu_.2 _ (by omega))
            have hA6 := hA6.kept (hu_.2 _ (by omega))
            have hA7 := hA7.kept (hu_.2 _ (by omega))
            have hA8 := hA8.kept (hu_.2 _ (by omega))
            have hA9 := hA9.kept (hu_.2 _ (by omega))
            have hA10 := hA10.kept (hu_.2 _ (by omega))
            have hA11 := hA11.kept (hu_.2 _ (by omega))
            have hA12 := hA12.kept (hu_.2 _ (by omega))
            have hF := hF.up hu_ (by omega)
            refine pb_iinc C dX3_closePath_138 hl (j := 5) (x := (((j : Nat) : Int))) rfl (by decide) rfl fun ls hl => ?_
            have hl : lv_has ls 6 [(4, .int (iZ ((((j + 1) : Nat) : Int)))), (5, .int (iZ ((wsum (S.2.2 0) (S.2.2 1) n ((j : Nat) : Int) ((k : Nat) : Int) n)))), (0, .ref (o)), (1, .int (iZ (((s : Nat) : Int)))), (2, .int (iZ ((bI (odd))))), (3, .int (iZ (((k : Nat) : Int))))] := hl
            refine pb_goto C dX3_closePath_141 (tgt := 90) (by decide) ?_
            exact pb_V.mono (by omega) (by omega) (ih90 _ (by omega) (j + 1) H1_ rfl hG (by omega) (by omega) ⟨hz, (show pb_O w H1_ o 2 [.int (iZ ((0))), .int (iZ ((S.1 1))), .ref (o + 1), .ref (o + 2), .ref (o + 3), .ref (o + 4), .ref (o + 5), .ref (o + 6), .ref (o + 7), .ref (o + 8), .ref (o + 9), .ref (o + 10), .ref (o + 11), .ref (o + 12), .int (iZ ((S.1 2))), .int (iZ ((S.1 3)))] from (by rw [hn]; exact hO)), hA1, hA2, hA3, hA4, hA5, hA6, hA7, hA8, hA9, hA10, hA11, hA12⟩ hF ls (lv_sub hl [2, 3, 4, 5, 0] rfl))
        · refine pb_iload C dX3_closePath_110 (lv_at hl 0 rfl) ?_
          refine pb_ic C dX3_closePath_112 ?_
          refine pb_irem C dX3_closePath_113 (x := (wsum (S.2.2 0) (S.2.2 1) n ((j : Nat) : Int) ((k : Nat) : Int) n)) (y := 2) (by omega) (by omega) (by omega) ?_
          refine pb_if_eq C dX3_closePath_114 (x := (Int.tmod ((wsum (S.2.2 0) (S.2.2 1) n ((j : Nat) : Int) ((k : Nat) : Int) n)) 2)) (tgt := 138) (by decide) (by have := pb_tm2 (wsum (S.2.2 0) (S.2.2 1) n ((j : Nat) : Int) ((k : Nat) : Int) n); omega) (fun c114_ => ?_) (fun c114_ => ?_)
          · have hφ : (wfill (S.2.2 0) (S.2.2 1) n odd) k j = false := by unfold wfill; rw [if_pos c107_]; exact decide_eq_false (fun z => z c114_)
            refine pb_iinc C dX3_closePath_138 hl (j := 5) (x := (((j : Nat) : Int))) rfl (by decide) rfl fun ls hl => ?_
            have hl : lv_has ls 6 [(4, .int (iZ ((((j + 1) : Nat) : Int)))), (5, .int (iZ ((wsum (S.2.2 0) (S.2.2 1) n ((j : Nat) : Int) ((k : Nat) : Int) n)))), (0, .ref (o)), (1, .int (iZ (((s : Nat) : Int)))), (2, .int (iZ ((bI (odd))))), (3, .int (iZ (((k : Nat) : Int))))] := hl
            refine pb_goto C dX3_closePath_141 (tgt := 90) (by decide) ?_
            exact pb_V.mono (by omega) (by omega) (ih90 _ (by omega) (j + 1) H rfl hG (by omega) (by omega) (by rw [← mdI_f (wfill (S.2.2 0) (S.2.2 1) n odd) (S.2.1 1) k j hφ]; exact hM) hF ls (lv_sub hl [2, 3, 4, 5, 0] rfl))
          · have hφ : (wfill (S.2.2 0) (S.2.2 1) n odd) k j = true := by unfold wfill; rw [if_pos c107_]; exact decide_eq_true c114_
            refine pb_goto C dX3_closePath_117 (tgt := 125) (by decide) ?_
            refine pb_aload_n C dX3_closePath_125 rfl (lv_at hl 1 rfl) ?_
            refine pb_get C in_X3 hO.r (ci := 2) rfl 3 (by decide) q1740 (fun _ h9 => h9) (v := .ref (o + 2)) rfl dX3_closePath_126 ?_
            refine pb_iload_n C dX3_closePath_129 rfl (lv_at hl 4 rfl) ?_
            refine pb_dup2 C dX3_closePath_130 rfl rfl ?_
            refine pb_iald C hA2.b (i := ((k : Nat) : Int)) (v := .int (iZ ((((msk ((wfill (S.2.2 0) (S.2.2 1) n odd) k) j) : Nat) : Int)))) (by omega) (congrArg (fun n : Nat => Value.int (iZ (n : Int))) (mdI_at (wfill (S.2.2 0) (S.2.2 1) n odd) (S.2.1 1) k j)) dX3_closePath_131 ?_
            refine pb_ic C dX3_closePath_132 ?_
            refine pb_iload C dX3_closePath_133 (lv_at hl 5 rfl) ?_
            refine pb_ishl C dX3_closePath_135 (x := 1) (y := j) (by omega) ?_
            refine pb_ior C dX3_closePath_136 (x := (msk ((wfill (S.2.2 0) (S.2.2 1) n odd) k) j)) (y := (1 <<< j)) ?_
            refine pb_iast C hA2 (i := ((k : Nat) : Int)) (by omega) (by omega) dX3_closePath_137 fun H2_ hu_ hA2 => ?_
            rw [pb_upN, Int.toNat_natCast, mdI_t (wfill (S.2.2 0) (S.2.2 1) n odd) (S.2.1 1) k j hφ rfl] at hA2
            have hG := hG.kept (hu_.z (by omega))
            have hO := hO.kept (hu_.2 _ (by omega))
            have hA1 := hA1.kept (hu_.2 _ (by omega))
            have hA3 := hA3.kept (hu_.2 _ (by omega))
            have hA4 := hA4.kept (hu_.2 _ (by omega))
            have hA5 := hA5.kept (hu_.2 _ (by omega))
            have hA6 := hA6.kept (hu_.2 _ (by omega))
            have hA7 := hA7.kept (hu_.2 _ (by omega))
            have hA8 := hA8.kept (hu_.2 _ (by omega))
            have hA9 := hA9.kept (hu_.2 _ (by omega))
            have hA10 := hA10.kept (hu_.2 _ (by omega))
            have hA11 := hA11.kept (hu_.2 _ (by omega))
            have hA12 := hA12.kept (hu_.2 _ (by omega))
            have hF := hF.up hu_ (by omega)
            refine pb_iinc C dX3_closePath_138 hl (j := 5) (x := (((j : Nat) : Int))) rfl (by decide) rfl fun ls hl => ?_
            have hl : lv_has ls 6 [(4, .int (iZ ((((j + 1) : Nat) : Int)))), (5, .int (iZ ((wsum (S.2.2 0) (S.2.2 1) n ((j : Nat) : Int) ((k : Nat) : Int) n)))), (0, .ref (o)), (1, .int (iZ (((s : Nat) : Int)))), (2, .int (iZ ((bI (odd))))), (3, .int (iZ (((k : Nat) : Int))))] := hl
            refine pb_goto C dX3_closePath_141 (tgt := 90) (by decide) ?_
            exact pb_V.mono (by omega) (by omega) (ih90 _ (by omega) (j + 1) H2_ rfl hG (by omega) (by omega) ⟨hz, (show pb_O w H2_ o 2 [.int (iZ ((0))), .int (iZ ((S.1 1))), .ref (o + 1), .ref (o + 2), .ref (o + 3), .ref (o + 4), .ref (o + 5), .ref (o + 6), .ref (o + 7), .ref (o + 8), .ref (o + 9), .ref (o + 10), .ref (o + 11), .ref (o + 12), .int (iZ ((S.1 2))), .int (iZ ((S.1 3)))] from (by rw [hn]; exact hO)), hA1, hA2, hA3, hA4, hA5, hA6, hA7, hA8, hA9, hA10, hA11, hA12⟩ hF ls (lv_sub hl [2, 3, 4, 5, 0] rfl))
    refine pb_iload_n C dX3_closePath_74 rfl (lv_at hl 3 rfl) ?_
    refine pb_bip C dX3_closePath_75 (by decide) ?_
    refine pb_icmp_ge C dX3_closePath_77 (x := ((k : Nat) : Int)) (y := 24) (tgt := 150) (by decide) (by omega) (by omega) (fun c77_ => ?_) (fun c77_ => ?_)
    · obtain rfl : k = 24 := by omega
      refine pb_aload_n C dX3_closePath_150 rfl (lv_at hl 0 rfl) ?_
      refine pb_ic C dX3_closePath_151 ?_
      refine pb_put C in_X3 tyX3 tyX3_ok nmX3 hO (ci := 2) rfl 1 (by decide) q1738 (fun _ h9 => h9) rfl (v := .int (iZ (0))) rfl rfl (Nat.le_of_ble_eq_true rfl) (by omega) dX3_closePath_152 fun H3_ hu_ hO => ?_
      have hO : pb_O w H3_ (o) 2 [.int (iZ ((0))), .int (iZ (0)), .ref (o + 1), .ref (o + 2), .ref (o + 3), .ref (o + 4), .ref (o + 5), .ref (o + 6), .ref (o + 7), .ref (o + 8), .ref (o + 9), .ref (o + 10), .ref (o + 11), .ref (o + 12), .int (iZ ((S.1 2))), .int (iZ ((S.1 3)))] := hO
      have hG := hG.kept (hu_.z (by omega))
      have hA1 := hA1.kept (hu_.2 _ (by omega))
      have hA2 := hA2.kept (hu_.2 _ (by omega))
      have hA3 := hA3.kept (hu_.2 _ (by omega))
      have hA4 := hA4.kept (hu_.2 _ (by omega))
      have hA5 := hA5.kept (hu_.2 _ (by omega))
      have hA6 := hA6.kept (hu_.2 _ (by omega))
      have hA7 := hA7.kept (hu_.2 _ (by omega))
      have hA8 := hA8.kept (hu_.2 _ (by omega))
      have hA9 := hA9.kept (hu_.2 _ (by omega))
      have hA10 := hA10.kept (hu_.2 _ (by omega))
      have hA11 := hA11.kept (hu_.2 _ (by omega))
      have hA12 := hA12.kept (hu_.2 _ (by omega))
      have hF := hF.up hu_ (by omega)
      refine pb_aload_n C dX3_closePath_155 rfl (lv_at hl 0 rfl) ?_
      refine pb_iload_n C dX3_closePath_156 rfl (lv_at hl 1 rfl) ?_
      refine pb_go_i (bc' := 0) (bs' := 0) (pb_runV (rest := []) C hG (met_X3_puts l o (mI (mB (mI S 0 0) 1 (mdF (wfill (S.2.2 0) (S.2.2 1) n odd) (S.2.1 1) 24)) 1 0) ⟨hz, hO, hA1, hA2, hA3, hA4, hA5, hA6, hA7, hA8, hA9, hA10, hA11, hA12⟩ s hs hb (fun y hy => by rw [show (mI (mB (mI S 0 0) 1 (mdF (wfill (S.2.2 0) (S.2.2 1) n odd) (S.2.1 1) 24)) 1 0).2.1 1 y = mdF (wfill (S.2.2 0) (S.2.2 1) n odd) (S.2.1 1) 24 y from rfl, mdF, if_pos hy]; exact msk_lt24 _)) hO.r (ci := 2) rfl (lw_V q1851 q1853 qs31 q60 q1854) ⟨rfl, hdX3_puts⟩ rfl hl.1 rfl (Nat.le_of_ble_eq_true rfl) ⟨(Nat.le_of_ble_eq_true rfl), (Nat.le_of_ble_eq_true rfl)⟩ dX3_closePath_157) (by omega) (by omega) (fun z_ H_ hp_ => ?_)
      obtain ⟨hz_, hM, hF2⟩ := hp_
      have hF := hF.tr hF2
      exact pb_iret C dX3_closePath_160 (⟨_, rfl, hz_, hM, hF⟩)
    · refine pb_aload_n C dX3_closePath_80 rfl (lv_at hl 0 rfl) ?_
      refine pb_get C in_X3 hO.r (ci := 2) rfl 3 (by decide) q1740 (fun _ h9 => h9) (v := .ref (o + 2)) rfl dX3_closePath_81 ?_
      refine pb_iload_n C dX3_closePath_84 rfl (lv_at hl 3 rfl) ?_
      refine pb_ic C dX3_closePath_85 ?_
      refine pb_iast C hA2 (i := ((k : Nat) : Int)) (by omega) (by omega) dX3_closePath_86 fun H4_ hu_ hA2 => ?_
      rw [show (Value.int (iZ 0)) = Value.int (iZ ((0 : Nat) : Int)) from rfl, pb_upN, Int.toNat_natCast, mdI_0] at hA2
      have hG := hG.kept (hu_.z (by omega))
      have hO := hO.kept (hu_.2 _ (by omega))
      have hA1 := hA1.kept (hu_.2 _ (by omega))
      have hA3 := hA3.kept (hu_.2 _ (by omega))
      have hA4 := hA4.kept (hu_.2 _ (by omega))
      have hA5 := hA5.kept (hu_.2 _ (by omega))
      have hA6 := hA6.kept (hu_.2 _ (by omega))
      have hA7 := hA7.kept (hu_.2 _ (by omega))
      have hA8 := hA8.kept (hu_.2 _ (by omega))
      have hA9 := hA9.kept (hu_.2 _ (by omega))
      have hA10 := hA10.kept (hu_.2 _ (by omega))
      have hA11 := hA11.kept (hu_.2 _ (by omega))
      have hA12 := hA12.kept (hu_.2 _ (by omega))
      have hF := hF.up hu_ (by omega)
      refine pb_ic C dX3_closePath_87 ?_
      refine pb_istore C dX3_closePath_88 hl (by decide) rfl fun ls hl => ?_
      have hl : lv_has ls 6 [(4, .int (iZ (0))), (0, .ref (o)), (1, .int (iZ (((s : Nat) : Int)))), (2, .int (iZ ((bI (odd))))), (3, .int (iZ (((k : Nat) : Int))))] := hl
      exact pb_V.mono (by omega) (by omega) (L90 _ 0 H4_ rfl hG (by omega) (by omega) ⟨hz, (show pb_O w H4_ o 2 [.int (iZ ((0))), .int (iZ ((S.1 1))), .ref (o + 1), .ref (o + 2), .ref (o + 3), .ref (o + 4), .ref (o + 5), .ref (o + 6), .ref (o + 7), .ref (o + 8), .ref (o + 9), .ref (o + 10), .ref (o + 11), .ref (o + 12), .int (iZ ((S.1 2))), .int (iZ ((S.1 3)))] from (by rw [hn]; exact hO)), hA1, hA2, hA3, hA4, hA5, hA6, hA7, hA8, hA9, hA10, hA11, hA12⟩ hF ls (lv_sub hl [1, 2, 3, 4, 0] rfl))
  refine pb_iload_n C dX3_closePath_0 rfl (lv_at hl 1 rfl) ?_
  refine pb_go_x (bc' := 0) (bs' := 0) (pb_runS (rest := []) C hG (met_X3_isSheet l (((s : Nat) : Int)) (by omega)) (lw_S q1794 q1795 q60 q1796) hdX3_isSheet rfl hl.1 rfl (Nat.le_of_ble_eq_true rfl) ⟨(Nat.le_of_ble_eq_true rfl), (Nat.le_of_ble_eq_true rfl)⟩ dX3_closePath_1) (by omega) (by omega) ?_
  refine pb_ifB_ne C dX3_closePath_4 (tgt := 13) (by decide) (fun c4_ => ?_) (fun c4_ => ?_)
  · have c4_ := of_decide_eq_true c4_
    refine pb_aload_n C dX3_closePath_13 rfl (lv_at hl 0 rfl) ?_
    refine pb_get C in_X3 hO.r (ci := 2) rfl 1 (by decide) q1738 (fun _ h9 => h9) (v := .int (iZ (((n : Nat) : Int)))) rfl dX3_closePath_14 ?_
    refine pb_ic C dX3_closePath_17 ?_
    refine pb_icmp_lt C dX3_closePath_18 (x := ((n : Nat) : Int)) (y := 4) (tgt := 61) (by decide) (by omega) (by omega) (fun c18_ => ?_) (fun c18_ => ?_)
    · omega
    · refine pb_aload_n C dX3_closePath_21 rfl (lv_at hl 0 rfl) ?_
      refine pb_get C in_X3 hO.r (ci := 2) rfl 6 (by decide) q1743 (fun _ h9 => h9) (v := .ref (o + 5)) rfl dX3_closePath_22 ?_
      refine pb_ic C dX3_closePath_25 ?_
      refine pb_iald C hA5.b (i := 0) (v := .int (iZ ((S.2.2 0 0)))) (by omega) rfl dX3_closePath_26 ?_
      refine pb_aload_n C dX3_closePath_27 rfl (lv_at hl 0 rfl) ?_
      refine pb_get C in_X3 hO.r (ci := 2) rfl 7 (by decide) q1744 (fun _ h9 => h9) (v := .ref (o + 6)) rfl dX3_closePath_28 ?_
      refine pb_ic C dX3_closePath_31 ?_
      refine pb_iald C hA6.b (i := 0) (v := .int (iZ ((S.2.2 1 0)))) (by omega) rfl dX3_closePath_32 ?_
      refine pb_aload_n C dX3_closePath_33 rfl (lv_at hl 0 rfl) ?_
      refine pb_get C in_X3 hO.r (ci := 2) rfl 6 (by decide) q1743 (fun _ h9 => h9) (v := .ref (o + 5)) rfl dX3_closePath_34 ?_
      refine pb_aload_n C dX3_closePath_37 rfl (lv_at hl 0 rfl) ?_
      refine pb_get C in_X3 hO.r (ci := 2) rfl 1 (by decide) q1738 (fun _ h9 => h9) (v := .int (iZ (((n : Nat) : Int)))) rfl dX3_closePath_38 ?_
      refine pb_ic C dX3_closePath_41 ?_
      refine pb_isub C dX3_closePath_42 ?_
      refine pb_eq (g2 := F0 m_ 43 ls [.int (iZ ((((n - 1) : Nat) : Int))), .ref (o + 5), .int (iZ ((S.2.2 1 0))), .int (iZ ((S.2.2 0 0)))]) (congrArg (fun z9 => F0 m_ 43 ls [.int (iZ z9), .ref (o + 5), .int (iZ ((S.2.2 1 0))), .int (iZ ((S.2.2 0 0)))]) (show (((n : Nat) : Int) - 1) = (((n - 1) : Nat) : Int) from (by omega))) ?_
      refine pb_iald C hA5.b (i := (((n - 1) : Nat) : Int)) (v := .int (iZ ((S.2.2 0 ((n - 1)))))) (by omega) rfl dX3_closePath_43 ?_
      refine pb_aload_n C dX3_closePath_44 rfl (lv_at hl 0 rfl) ?_
      refine pb_get C in_X3 hO.r (ci := 2) rfl 7 (by decide) q1744 (fun _ h9 => h9) (v := .ref (o + 6)) rfl dX3_closePath_45 ?_
      refine pb_aload_n C dX3_closePath_48 rfl (lv_at hl 0 rfl) ?_
      refine pb_get C in_X3 hO.r (ci := 2) rfl 1 (by decide) q1738 (fun _ h9 => h9) (v := .int (iZ (((n : Nat) : Int)))) rfl dX3_closePath_49 ?_
      refine pb_ic C dX3_closePath_52 ?_
      refine pb_isub C dX3_closePath_53 ?_
      refine pb_eq (g2 := F0 m_ 54 ls [.int (iZ ((((n - 1) : Nat) : Int))), .ref (o + 6), .int (iZ ((S.2.2 0 ((n - 1))))), .int (iZ ((S.2.2 1 0))), .int (iZ ((S.2.2 0 0)))]) (congrArg (fun z9 => F0 m_ 54 ls [.int (iZ z9), .ref (o + 6), .int (iZ ((S.2.2 0 ((n - 1))))), .int (iZ ((S.2.2 1 0))), .int (iZ ((S.2.2 0 0)))]) (show (((n : Nat) : Int) - 1) = (((n - 1) : Nat) : Int) from (by omega))) ?_
      refine pb_iald C hA6.b (i := (((n - 1) : Nat) : Int)) (v := .int (iZ ((S.2.2 1 ((n - 1)))))) (by omega) rfl dX3_closePath_54 ?_
      refine pb_go_x (bc' := 0) (bs' := 0) (pb_runS (rest := []) C hG (met_X3_isLine l (S.2.2 0 0) (S.2.2 1 0) (S.2.2 0 (n - 1)) (S.2.2 1 (n - 1)) (by omega) (by omega) (by omega) (by omega)) (lw_S q1840 q1841 q60 q1842) hdX3_isLine rfl hl.1 rfl (Nat.le_of_ble_eq_true rfl) ⟨(Nat.le_of_ble_eq_true rfl), (Nat.le_of_ble_eq_true rfl)⟩ dX3_closePath_55) (by omega) (by omega) ?_
      refine pb_ifB_ne C dX3_closePath_58 (tgt := 67) (by decide) (fun c58_ => ?_) (fun c58_ => ?_)
      · have c58_ := of_decide_eq_true c58_
        refine pb_aload_n C dX3_closePath_67 rfl (lv_at hl 0 rfl) ?_
        refine pb_ic C dX3_closePath_68 ?_
        refine pb_put C in_X3 tyX3 tyX3_ok nmX3 hO (ci := 2) rfl 0 (by decide) q1737 (fun _ h9 => h9) rfl (v := .int (iZ (0))) rfl rfl (Nat.le_of_ble_eq_true rfl) (by omega) dX3_closePath_69 fun H5_ hu_ hO => ?_
        have hO : pb_O w H5_ (o) 2 [.int (iZ (0)), .int (iZ (((n : Nat) : Int))), .ref (o + 1), .ref (o + 2), .ref (o + 3), .ref (o + 4), .ref (o + 5), .ref (o + 6), .ref (o + 7), .ref (o + 8), .ref (o + 9), .ref (o + 10), .ref (o + 11), .ref (o + 12), .int (iZ ((S.1 2))), .int (iZ ((S.1 3)))] := hO
        have hG := hG.kept (hu_.z (by omega))
        have hA1 := hA1.kept (hu_.2 _ (by omega))
        have hA2 := hA2.kept (hu_.2 _ (by omega))
        have hA3 := hA3.kept (hu_.2 _ (by omega))
        have hA4 := hA4.kept (hu_.2 _ (by omega))
        have hA5 := hA5.kept (hu_.2 _ (by omega))
        have hA6 := hA6.kept (hu_.2 _ (by omega))
        have hA7 := hA7.kept (hu_.2 _ (by omega))
        have hA8 := hA8.kept (hu_.2 _ (by omega))
        have hA9 := hA9.kept (hu_.2 _ (by omega))
        have hA10 := hA10.kept (hu_.2 _ (by omega))
        have hA11 := hA11.kept (hu_.2 _ (by omega))
        have hA12 := hA12.kept (hu_.2 _ (by omega))
        have hF := hF.up hu_ (by omega)
        refine pb_ic C dX3_closePath_72 ?_
        refine pb_istore_n C dX3_closePath_73 rfl hl (by decide) rfl fun ls hl => ?_
        have hl : lv_has ls 6 [(3, .int (iZ (0))), (0, .ref (o)), (1, .int (iZ (((s : Nat) : Int)))), (2, .int (iZ ((bI (odd)))))] := hl
        exact pb_V.mono (by omega) (by omega) (L74 _ 0 H5_ rfl hG (by omega) (by rw [mdF_0]; exact ⟨hz, (show pb_O w H5_ o 2 [.int (iZ ((0))), .int (iZ ((S.1 1))), .ref (o + 1), .ref (o + 2), .ref (o + 3), .ref (o + 4), .ref (o + 5), .ref (o + 6), .ref (o + 7), .ref (o + 8), .ref (o + 9), .ref (o + 10), .ref (o + 11), .ref (o + 12), .int (iZ ((S.1 2))), .int (iZ ((S.1 3)))] from (by rw [hn]; exact hO)), hA1, hA2, hA3, hA4, hA5, hA6, hA7, hA8, hA9, hA10, hA11, hA12⟩) hF ls (lv_sub hl [1, 2, 3, 0] rfl))
      · have c58_ := of_decide_eq_false c58_
        omega
  · have c4_ := of_decide_eq_false c4_
    omega

set_option maxHeartbeats 1000000 in
theorem met_X3_closePath_1 {w : pb_W} (l : Launch) {H0 : Heap} (o : Nat) (S : mS) (hM : MW w H0 o S) (s : Int) (hsr : -2147483648 ≤ s ∧ s ≤ 2147483647) (hs : ¬ (0 ≤ s ∧ s ≤ 7)) (odd : Bool) (n : Nat) (hn : S.1 1 = ((n : Nat) : Int)) (hP : ∀ i, i < n → (0 ≤ S.2.2 0 i ∧ S.2.2 0 i ≤ 24) ∧ 0 ≤ S.2.2 1 i ∧ S.2.2 1 i ≤ 24) : pb_M w l yX3_closePath cX3_closePath 6 (some .int) 6 (0) (0) [.ref (o), .int (iZ (s)), .int (iZ ((bI (odd))))] H0 (pb_qi (fun z H1 => z = 0 ∧ MW w H1 o (mI S 0 1) ∧ mF o H0 H1)) := by
  refine pb_of (by decide +kernel) (Nat.le_of_ble_eq_true rfl) ?_
  intro p_ e_ s_ m_ ar_ bl_ me_ co_ ls C hh hG hl
  have hl : lv_has ls 6 [(0, .ref (o)), (1, .int (iZ (s))), (2, .int (iZ ((bI (odd)))))] := hl
  have hM0 := hM; obtain ⟨hz, hO, hA1, hA2, hA3, hA4, hA5, hA6, hA7, hA8, hA9, hA10, hA11, hA12⟩ := hM0
  have hO : pb_O w H0 o 2 [.int (iZ ((S.1 0))), .int (iZ (((n : Nat) : Int))), .ref (o + 1), .ref (o + 2), .ref (o + 3), .ref (o + 4), .ref (o + 5), .ref (o + 6), .ref (o + 7), .ref (o + 8), .ref (o + 9), .ref (o + 10), .ref (o + 11), .ref (o + 12), .int (iZ ((S.1 2))), .int (iZ ((S.1 3)))] := hn ▸ hO
  have hF : mF o H0 H0 := mF.rf
  refine pb_iload_n C dX3_closePath_0 rfl (lv_at hl 1 rfl) ?_
  refine pb_go_x (bc' := 0) (bs' := 0) (pb_runS (rest := []) C hG (met_X3_isSheet l s (by omega)) (lw_S q1794 q1795 q60 q1796) hdX3_isSheet rfl hl.1 rfl (Nat.le_of_ble_eq_true rfl) ⟨(Nat.le_of_ble_eq_true rfl), (Nat.le_of_ble_eq_true rfl)⟩ dX3_closePath_1) (by omega) (by omega) ?_
  refine pb_ifB_ne C dX3_closePath_4 (tgt := 13) (by decide) (fun c4_ => ?_) (fun c4_ => ?_)
  · have c4_ := of_decide_eq_true c4_
    omega
  · have c4_ := of_decide_eq_false c4_
    refine pb_aload_n C dX3_closePath_7 rfl (lv_at hl 0 rfl) ?_
    refine pb_ic C dX3_closePath_8 ?_
    refine pb_go_i (bc' := 0) (bs' := 0) (pb_runV (rest := []) C hG (met_X3_fail l o S hM 1) hO.r (ci := 2) rfl (lw_V q1836 q1838 qs29 q60 q1839) ⟨rfl, hdX3_fail⟩ rfl hl.1 rfl (Nat.le_of_ble_eq_true rfl) ⟨(Nat.le_of_ble_eq_true rfl), (Nat.le_of_ble_eq_true rfl)⟩ dX3_closePath_9) (by omega) (by omega) (fun z_ H_ hp_ => ?_)
    obtain ⟨rfl, hM, hF⟩ := hp_
    exact pb_iret C dX3_closePath_12 (⟨_, rfl, rfl, hM, hF⟩)

set_option maxHeartbeats 1000000 in
theorem met_X3_closePath_2 {w : pb_W} (l : Launch) {H0 : Heap} (o : Nat) (S : mS) (hM : MW w H0 o S) (s : Nat) (hs : s < 8) (odd : Bool) (n : Nat) (hn : S.1 1 = ((n : Nat) : Int)) (hP : ∀ i, i < n → (0 ≤ S.2.2 0 i ∧ S.2.2 0 i ≤ 24) ∧ 0 ≤ S.2.2 1 i ∧ S.2.2 1 i ≤ 24) (h2 : n ≤ 40) (hq : ¬ (4 ≤ n ∧ ¬ (S.2.2 0 0 = S.2.2 0 (n - 1) ↔ S.2.2 1 0 = S.2.2 1 (n - 1)))) : pb_M w l yX3_closePath cX3_closePath 6 (some .int) 6 (0) (0) [.ref (o), .int (iZ (((s : Nat) : Int))), .int (iZ ((bI (odd))))] H0 (pb_qi (fun z H1 => z = 0 ∧ MW w H1 o (mI S 0 2) ∧ mF o H0 H1)) := by
  refine pb_of (by decide +kernel) (Nat.le_of_ble_eq_true rfl) ?_
  intro p_ e_ s_ m_ ar_ bl_ me_ co_ ls C hh hG hl
  have hl : lv_has ls 6 [(0, .ref (o)), (1, .int (iZ (((s : Nat) : Int)))), (2, .int (iZ ((bI (odd)))))] := hl
  have hM0 := hM; obtain ⟨hz, hO, hA1, hA2, hA3, hA4, hA5, hA6, hA7, hA8, hA9, hA10, hA11, hA12⟩ := hM0
  have hO : pb_O w H0 o 2 [.int (iZ ((S.1 0))), .int (iZ (((n : Nat) : Int))), .ref (o + 1), .ref (o + 2), .ref (o + 3), .ref (o + 4), .ref (o + 5), .ref (o + 6), .ref (o + 7), .ref (o + 8), .ref (o + 9), .ref (o + 10), .ref (o + 11), .ref (o + 12), .int (iZ ((S.1 2))), .int (iZ ((S.1 3)))] := hn ▸ hO
  have hF : mF o H0 H0 := mF.rf
  refine pb_iload_n C dX3_closePath_0 rfl (lv_at hl 1 rfl) ?_
  refine pb_go_x (bc' := 0) (bs' := 0) (pb_runS (rest := []) C hG (met_X3_isSheet l (((s : Nat) : Int)) (by omega)) (lw_S q1794 q1795 q60 q1796) hdX3_isSheet rfl hl.1 rfl (Nat.le_of_ble_eq_true rfl) ⟨(Nat.le_of_ble_eq_true rfl), (Nat.le_of_ble_eq_true rfl)⟩ dX3_closePath_1) (by omega) (by omega) ?_
  refine pb_ifB_ne C dX3_closePath_4 (tgt := 13) (by decide) (fun c4_ => ?_) (fun c4_ => ?_)
  · have c4_ := of_decide_eq_true c4_
    refine pb_aload_n C dX3_closePath_13 rfl (lv_at hl 0 rfl) ?_
    refine pb_get C in_X3 hO.r (ci := 2) rfl 1 (by decide) q1738 (fun _ h9 => h9) (v := .int (iZ (((n : Nat) : Int)))) rfl dX3_closePath_14 ?_
    refine pb_ic C dX3_closePath_17 ?_
    refine pb_icmp_lt C dX3_closePath_18 (x := ((n : Nat) : Int)) (y := 4) (tgt := 61) (by decide) (by omega) (by omega) (fun c18_ => ?_) (fun c18_ => ?_)
    · refine pb_aload_n C dX3_closePath_61 rfl (lv_at hl 0 rfl) ?_
      refine pb_ic C dX3_closePath_62 ?_
      refine pb_go_i (bc' := 0) (bs' := 0) (pb_runV (rest := []) C hG (met_X3_fail l o S hM 2) hO.r (ci := 2) rfl (lw_V q1836 q1838 qs29 q60 q1839) ⟨rfl, hdX3_fail⟩ rfl hl.1 rfl (Nat.le_of_ble_eq_true rfl) ⟨(Nat.le_of_ble_eq_true rfl), (Nat.le_of_ble_eq_true rfl)⟩ dX3_closePath_63) (by omega) (by omega) (fun z_ H_ hp_ => ?_)
      obtain ⟨rfl, hM, hF⟩ := hp_
      exact pb_iret C dX3_closePath_66 (⟨_, rfl, rfl, hM, hF⟩)
    · have hP0 := hP 0 (by omega)
      have hPn := hP (n - 1) (by omega)
      refine pb_aload_n C dX3_closePath_21 rfl (lv_at hl 0 rfl) ?_
      refine pb_get C in_X3 hO.r (ci := 2) rfl 6 (by decide) q1743 (fun _ h9 => h9) (v := .ref (o + 5)) rfl dX3_closePath_22 ?_
      refine pb_ic C dX3_closePath_25 ?_
      refine pb_iald C hA5.b (i := 0) (v := .int (iZ ((S.2.2 0 0)))) (by omega) rfl dX3_closePath_26 ?_
      refine pb_aload_n C dX3_closePath_27 rfl (lv_at hl 0 rfl) ?_
      refine pb_get C in_X3 hO.r (ci := 2) rfl 7 (by decide) q1744 (fun _ h9 => h9) (v := .ref (o + 6)) rfl dX3_closePath_28 ?_
      refine pb_ic C dX3_closePath_31 ?_
      refine pb_iald C hA6.b (i := 0) (v := .int (iZ ((S.2.2 1 0)))) (by omega) rfl dX3_closePath_32 ?_
      refine pb_aload_n C dX3_closePath_33 rfl (lv_at hl 0 rfl) ?_
      refine pb_get C in_X3 hO.r (ci := 2) rfl 6 (by decide) q1743 (fun _ h9 => h9) (v := .ref (o + 5)) rfl dX3_closePath_34 ?_
      refine pb_aload_n C dX3_closePath_37 rfl (lv_at hl 0 rfl) ?_
      refine pb_get C in_X3 hO.r (ci := 2) rfl 1 (by decide) q1738 (fun _ h9 => h9) (v := .int (iZ (((n : Nat) : Int)))) rfl dX3_closePath_38 ?_
      refine pb_ic C dX3_closePath_41 ?_
      refine pb_isub C dX3_closePath_42 ?_
      refine pb_eq (g2 := F0 m_ 43 ls [.int (iZ ((((n - 1) : Nat) : Int))), .ref (o + 5), .int (iZ ((S.2.2 1 0))), .int (iZ ((S.2.2 0 0)))]) (congrArg (fun z9 => F0 m_ 43 ls [.int (iZ z9), .ref (o + 5), .int (iZ ((S.2.2 1 0))), .int (iZ ((S.2.2 0 0)))]) (show (((n : Nat) : Int) - 1) = (((n - 1) : Nat) : Int) from (by omega))) ?_
      refine pb_iald C hA5.b (i := (((n - 1) : Nat) : Int)) (v := .int (iZ ((S.2.2 0 ((n - 1)))))) (by omega) rfl dX3_closePath_43 ?_
      refine pb_aload_n C dX3_closePath_44 rfl (lv_at hl 0 rfl) ?_
      refine pb_get C in_X3 hO.r (ci := 2) rfl 7 (by decide) q1744 (fun _ h9 => h9) (v := .ref (o + 6)) rfl dX3_closePath_45 ?_
      refine pb_aload_n C dX3_closePath_48 rfl (lv_at hl 0 rfl) ?_
      refine pb_get C in_X3 hO.r (ci := 2) rfl 1 (by decide) q1738 (fun _ h9 => h9) (v := .int (iZ (((n : Nat) : Int)))) rfl dX3_closePath_49 ?_
      refine pb_ic C dX3_closePath_52 ?_
      refine pb_isub C dX3_closePath_53 ?_
      refine pb_eq (g2 := F0 m_ 54 ls [.int (iZ ((((n - 1) : Nat) : Int))), .ref (o + 6), .int (iZ ((S.2.2 0 ((n - 1))))), .int (iZ ((S.2.2 1 0))), .int (iZ ((S.2.2 0 0)))]) (congrArg (fun z9 => F0 m_ 54 ls [.int (iZ z9), .ref (o + 6), .int (iZ ((S.2.2 0 ((n - 1))))), .int (iZ ((S.2.2 1 0))), .int (iZ ((S.2.2 0 0)))]) (show (((n : Nat) : Int) - 1) = (((n - 1) : Nat) : Int) from (by omega))) ?_
      refine pb_iald C hA6.b (i := (((n - 1) : Nat) : Int)) (v := .int (iZ ((S.2.2 1 ((n - 1)))))) (by omega) rfl dX3_closePath_54 ?_
      refine pb_go_x (bc' := 0) (bs' := 0) (pb_runS (rest := []) C hG (met_X3_isLine l (S.2.2 0 0) (S.2.2 1 0) (S.2.2 0 (n - 1)) (S.2.2 1 (n - 1)) (by omega) (by omega) (by omega) (by omega)) (lw_S q1840 q1841 q60 q1842) hdX3_isLine rfl hl.1 rfl (Nat.le_of_ble_eq_true rfl) ⟨(Nat.le_of_ble_eq_true rfl), (Nat.le_of_ble_eq_true rfl)⟩ dX3_closePath_55) (by omega) (by omega) ?_
      refine pb_ifB_ne C dX3_closePath_58 (tgt := 67) (by decide) (fun c58_ => ?_) (fun c58_ => ?_)
      · have c58_ := of_decide_eq_true c58_
        exact absurd ⟨by omega, c58_⟩ hq
      · have c58_ := of_decide_eq_false c58_
        refine pb_aload_n C dX3_closePath_61 rfl (lv_at hl 0 rfl) ?_
        refine pb_ic C dX3_closePath_62 ?_
        refine pb_go_i (bc' := 0) (bs' := 0) (pb_runV (rest := []) C hG (met_X3_fail l o S hM 2) hO.r (ci := 2) rfl (lw_V q1836 q1838 qs29 q60 q1839) ⟨rfl, hdX3_fail⟩ rfl hl.1 rfl (Nat.le_of_ble_eq_true rfl) ⟨(Nat.le_of_ble_eq_true rfl), (Nat.le_of_ble_eq_true rfl)⟩ dX3_closePath_63) (by omega) (by omega) (fun z_ H_ hp_ => ?_)
        obtain ⟨rfl, hM, hF⟩ := hp_
        exact pb_iret C dX3_closePath_66 (⟨_, rfl, rfl, hM, hF⟩)
  · have c4_ := of_decide_eq_false c4_
    omega

