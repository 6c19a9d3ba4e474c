set_option maxRecDepth 100000
set_option maxHeartbeats 1000000 in
theorem met_X3_leads_0 {w : pb_W} (l : Launch) {H : Heap} (o : Nat) (S : mS) (hM : MW w H o S) (s : Nat) (hs : s < 8) (hb : mok S) (x y : Int) (hx : -1000 ≤ x ∧ x ≤ 1000) (hy : -1000 ≤ y ∧ y ≤ 1000) : pb_M w l yX3_leads cX3_leads 5 (some .boolean) 4 (0) (0) [.ref (o), .int (iZ (((s : Nat) : Int))), .int (iZ (x)), .int (iZ (y)), .int (iZ (0))] H (pb_qx (.int (iZ (bI (ldr (mg S s) x y 0)))) H) := by
  refine pb_of (by decide +kernel) (Nat.le_of_ble_eq_true rfl) ?_
  intro p_ e_ s_ m_ ar_ bl_ me_ co_ ls C hh hG hl
  have hl : lv_has ls 5 [(0, .ref (o)), (1, .int (iZ (((s : Nat) : Int)))), (2, .int (iZ (x))), (3, .int (iZ (y))), (4, .int (iZ (0)))] := hl
  have hM0 := hM; obtain ⟨hz, hO, hA1, hA2, hA3, hA4, hA5, hA6, hA7, hA8, hA9, hA10, hA11, hA12⟩ := hM0
  refine pb_iload C dX3_leads_0 (lv_at hl 4 rfl) ?_
  refine pb_tswI C (x := 0) (tgt := 28) dX3_leads_2 (by decide) (by decide) (by decide) rfl (by decide) ?_
  refine pb_aload_n C dX3_leads_28 rfl (lv_at hl 0 rfl) ?_
  refine pb_iload_n C dX3_leads_29 rfl (lv_at hl 1 rfl) ?_
  refine pb_iload_n C dX3_leads_30 rfl (lv_at hl 2 rfl) ?_
  refine pb_iload_n C dX3_leads_31 rfl (lv_at hl 3 rfl) ?_
  refine pb_go_x (bc' := 0) (bs' := 0) (pb_runV (rest := []) C hG (met_X3_has l o S hM s hs hb x y (by omega) (by omega)) hO.r (ci := 2) rfl (lw_V q1875 q1877 qs35 q60 q1878) ⟨rfl, hdX3_has⟩ rfl hl.1 rfl (Nat.le_of_ble_eq_true rfl) ⟨(Nat.le_of_ble_eq_true rfl), (Nat.le_of_ble_eq_true rfl)⟩ dX3_leads_32) (by omega) (by omega) ?_
  refine pb_ifB_eq C dX3_leads_35 (tgt := 54) (by decide) (fun c35_ => ?_) (fun c35_ => ?_)
  · refine pb_ic C dX3_leads_54 ?_
    exact pb_zret C dX3_leads_55 (by decide +kernel) (⟨by rw [show ldr (mg S s) x y 0 = false from by unfold ldr; rw [c35_]; rfl]; rfl, rfl⟩)
  · refine pb_aload_n C dX3_leads_38 rfl (lv_at hl 0 rfl) ?_
    refine pb_iload_n C dX3_leads_39 rfl (lv_at hl 1 rfl) ?_
    refine pb_iload_n C dX3_leads_40 rfl (lv_at hl 2 rfl) ?_
    refine pb_iload_n C dX3_leads_41 rfl (lv_at hl 3 rfl) ?_
    refine pb_ic C dX3_leads_42 ?_
    refine pb_isub C dX3_leads_43 ?_
    refine pb_go_x (bc' := 0) (bs' := 0) (pb_runV (rest := []) C hG (met_X3_has l o S hM s hs hb x ((y - 1)) (by omega) (by omega)) hO.r (ci := 2) rfl (lw_V q1875 q1877 qs35 q60 q1878) ⟨rfl, hdX3_has⟩ rfl hl.1 rfl (Nat.le_of_ble_eq_true rfl) ⟨(Nat.le_of_ble_eq_true rfl), (Nat.le_of_ble_eq_true rfl)⟩ dX3_leads_44) (by omega) (by omega) ?_
    refine pb_ifB_ne C dX3_leads_47 (tgt := 54) (by decide) (fun c47_ => ?_) (fun c47_ => ?_)
    · refine pb_ic C dX3_leads_54 ?_
      exact pb_zret C dX3_leads_55 (by decide +kernel) (⟨by rw [show ldr (mg S s) x y 0 = false from by unfold ldr; rw [c35_, c47_]; rfl]; rfl, rfl⟩)
    · refine pb_ic C dX3_leads_50 ?_
      refine pb_goto C dX3_leads_51 (tgt := 55) (by decide) ?_
      exact pb_zret C dX3_leads_55 (by decide +kernel) (⟨by rw [show ldr (mg S s) x y 0 = true from by unfold ldr; rw [c35_, c47_]; rfl]; rfl, rfl⟩)

set_option maxHeartbeats 1000000 in
theorem met_X3_leads_1 {w : pb_W} (l : Launch) {H : Heap} (o : Nat) (S : mS) (hM : MW w H o S) (s : Nat) (hs : s < 8) (hb : mok S) (x y : Int) (hx : -1000 ≤ x ∧ x ≤ 1000) (hy : -1000 ≤ y ∧ y ≤ 1000) : pb_M w l yX3_leads cX3_leads 5 (some .boolean) 4 (0) (0) [.ref (o), .int (iZ (((s : Nat) : Int))), .int (iZ (x)), .int (iZ (y)), .int (iZ (1))] H (pb_qx (.int (iZ (bI (ldr (mg S s) x y 1)))) H) := by
  refine pb_of (by decide +kernel) (Nat.le_of_ble_eq_true rfl) ?_
  intro p_ e_ s_ m_ ar_ bl_ me_ co_ ls C hh hG hl
  have hl : lv_has ls 5 [(0, .ref (o)), (1, .int (iZ (((s : Nat) : Int)))), (2, .int (iZ (x))), (3, .int (iZ (y))), (4, .int (iZ (1)))] := hl
  have hM0 := hM; obtain ⟨hz, hO, hA1, hA2, hA3, hA4, hA5, hA6, hA7, hA8, hA9, hA10, hA11, hA12⟩ := hM0
  refine pb_iload C dX3_leads_0 (lv_at hl 4 rfl) ?_
  refine pb_tswI C (x := 1) (tgt := 56) dX3_leads_2 (by decide) (by decide) (by decide) rfl (by decide) ?_
  refine pb_aload_n C dX3_leads_56 rfl (lv_at hl 0 rfl) ?_
  refine pb_iload_n C dX3_leads_57 rfl (lv_at hl 1 rfl) ?_
  refine pb_iload_n C dX3_leads_58 rfl (lv_at hl 2 rfl) ?_
  refine pb_ic C dX3_leads_59 ?_
  refine pb_isub C dX3_leads_60 ?_
  refine pb_iload_n C dX3_leads_61 rfl (lv_at hl 3 rfl) ?_
  refine pb_go_x (bc' := 0) (bs' := 0) (pb_runV (rest := []) C hG (met_X3_has l o S hM s hs hb ((x - 1)) y (by omega) (by omega)) hO.r (ci := 2) rfl (lw_V q1875 q1877 qs35 q60 q1878) ⟨rfl, hdX3_has⟩ rfl hl.1 rfl (Nat.le_of_ble_eq_true rfl) ⟨(Nat.le_of_ble_eq_true rfl), (Nat.le_of_ble_eq_true rfl)⟩ dX3_leads_62) (by omega) (by omega) ?_
  refine pb_ifB_eq C dX3_leads_65 (tgt := 82) (by decide) (fun c65_ => ?_) (fun c65_ => ?_)
  · refine pb_ic C dX3_leads_82 ?_
    exact pb_zret C dX3_leads_83 (by decide +kernel) (⟨by rw [show ldr (mg S s) x y 1 = false from by unfold ldr; rw [c65_]; rfl]; rfl, rfl⟩)
  · refine pb_aload_n C dX3_leads_68 rfl (lv_at hl 0 rfl) ?_
    refine pb_iload_n C dX3_leads_69 rfl (lv_at hl 1 rfl) ?_
    refine pb_iload_n C dX3_leads_70 rfl (lv_at hl 2 rfl) ?_
    refine pb_iload_n C dX3_leads_71 rfl (lv_at hl 3 rfl) ?_
    refine pb_go_x (bc' := 0) (bs' := 0) (pb_runV (rest := []) C hG (met_X3_has l o S hM s hs hb x y (by omega) (by omega)) hO.r (ci := 2) rfl (lw_V q1875 q1877 qs35 q60 q1878) ⟨rfl, hdX3_has⟩ rfl hl.1 rfl (Nat.le_of_ble_eq_true rfl) ⟨(Nat.le_of_ble_eq_true rfl), (Nat.le_of_ble_eq_true rfl)⟩ dX3_leads_72) (by omega) (by omega) ?_
    refine pb_ifB_ne C dX3_leads_75 (tgt := 82) (by decide) (fun c75_ => ?_) (fun c75_ => ?_)
    · refine pb_ic C dX3_leads_82 ?_
      exact pb_zret C dX3_leads_83 (by decide +kernel) (⟨by rw [show ldr (mg S s) x y 1 = false from by unfold ldr; rw [c65_, c75_]; rfl]; rfl, rfl⟩)
    · refine pb_ic C dX3_leads_78 ?_
      refine pb_goto C dX3_leads_79 (tgt := 83) (by decide) ?_
      exact pb_zret C dX3_leads_83 (by decide +kernel) (⟨by rw [show ldr (mg S s) x y 1 = true from by unfold ldr; rw [c65_, c75_]; rfl]; rfl, rfl⟩)

set_option maxHeartbeats 1000000 in
theorem met_X3_leads_2 {w : pb_W} (l : Launch) {H : Heap} (o : Nat) (S : mS) (hM : MW w H o S) (s : Nat) (hs : s < 8) (hb : mok S) (x y : Int) (hx : -1000 ≤ x ∧ x ≤ 1000) (hy : -1000 ≤ y ∧ y ≤ 1000) : pb_M w l yX3_leads cX3_leads 5 (some .boolean) 4 (0) (0) [.ref (o), .int (iZ (((s : Nat) : Int))), .int (iZ (x)), .int (iZ (y)), .int (iZ (2))] H (pb_qx (.int (iZ (bI (ldr (mg S s) x y 2)))) H) := by
  refine pb_of (by decide +kernel) (Nat.le_of_ble_eq_true rfl) ?_
  intro p_ e_ s_ m_ ar_ bl_ me_ co_ ls C hh hG hl
  have hl : lv_has ls 5 [(0, .ref (o)), (1, .int (iZ (((s : Nat) : Int)))), (2, .int (iZ (x))), (3, .int (iZ (y))), (4, .int (iZ (2)))] := hl
  have hM0 := hM; obtain ⟨hz, hO, hA1, hA2, hA3, hA4, hA5, hA6, hA7, hA8, hA9, hA10, hA11, hA12⟩ := hM0
  refine pb_iload C dX3_leads_0 (lv_at hl 4 rfl) ?_
  refine pb_tswI C (x := 2) (tgt := 84) dX3_leads_2 (by decide) (by decide) (by decide) rfl (by decide) ?_
  refine pb_aload_n C dX3_leads_84 rfl (lv_at hl 0 rfl) ?_
  refine pb_iload_n C dX3_leads_85 rfl (lv_at hl 1 rfl) ?_
  refine pb_iload_n C dX3_leads_86 rfl (lv_at hl 2 rfl) ?_
  refine pb_ic C dX3_leads_87 ?_
  refine pb_isub C dX3_leads_88 ?_
  refine pb_iload_n C dX3_leads_89 rfl (lv_at hl 3 rfl) ?_
  refine pb_ic C dX3_leads_90 ?_
  refine pb_isub C dX3_leads_91 ?_
  refine pb_go_x (bc' := 0) (bs' := 0) (pb_runV (rest := []) C hG (met_X3_has l o S hM s hs hb ((x - 1)) ((y - 1)) (by omega) (by omega)) hO.r (ci := 2) rfl (lw_V q1875 q1877 qs35 q60 q1878) ⟨rfl, hdX3_has⟩ rfl hl.1 rfl (Nat.le_of_ble_eq_true rfl) ⟨(Nat.le_of_ble_eq_true rfl), (Nat.le_of_ble_eq_true rfl)⟩ dX3_leads_92) (by omega) (by omega) ?_
  refine pb_ifB_eq C dX3_leads_95 (tgt := 114) (by decide) (fun c95_ => ?_) (fun c95_ => ?_)
  · refine pb_ic C dX3_leads_114 ?_
    exact pb_zret C dX3_leads_115 (by decide +kernel) (⟨by rw [show ldr (mg S s) x y 2 = false from by unfold ldr; rw [c95_]; rfl]; rfl, rfl⟩)
  · refine pb_aload_n C dX3_leads_98 rfl (lv_at hl 0 rfl) ?_
    refine pb_iload_n C dX3_leads_99 rfl (lv_at hl 1 rfl) ?_
    refine pb_iload_n C dX3_leads_100 rfl (lv_at hl 2 rfl) ?_
    refine pb_ic C dX3_leads_101 ?_
    refine pb_isub C dX3_leads_102 ?_
    refine pb_iload_n C dX3_leads_103 rfl (lv_at hl 3 rfl) ?_
    refine pb_go_x (bc' := 0) (bs' := 0) (pb_runV (rest := []) C hG (met_X3_has l o S hM s hs hb ((x - 1)) y (by omega) (by omega)) hO.r (ci := 2) rfl (lw_V q1875 q1877 qs35 q60 q1878) ⟨rfl, hdX3_has⟩ rfl hl.1 rfl (Nat.le_of_ble_eq_true rfl) ⟨(Nat.le_of_ble_eq_true rfl), (Nat.le_of_ble_eq_true rfl)⟩ dX3_leads_104) (by omega) (by omega) ?_
    refine pb_ifB_ne C dX3_leads_107 (tgt := 114) (by decide) (fun c107_ => ?_) (fun c107_ => ?_)
    · refine pb_ic C dX3_leads_114 ?_
      exact pb_zret C dX3_leads_115 (by decide +kernel) (⟨by rw [show ldr (mg S s) x y 2 = false from by unfold ldr; rw [c95_, c107_]; rfl]; rfl, rfl⟩)
    · refine pb_ic C dX3_leads_110 ?_
      refine pb_goto C dX3_leads_111 (tgt := 115) (by decide) ?_
      exact pb_zret C dX3_leads_115 (by decide +kernel) (⟨by rw [show ldr (mg S s) x y 2 = true from by unfold ldr; rw [c95_, c107_]; rfl]; rfl, rfl⟩)

set_option maxHeartbeats 1000000 in
theorem met_X3_leads_3 {w : pb_W} (l : Launch) {H : Heap} (o : Nat) (S : mS) (hM : MW w H o S) (s : Nat) (hs : s < 8) (hb : mok S) (x y : Int) (hx : -1000 ≤ x ∧ x ≤ 1000) (hy : -1000 ≤ y ∧ y ≤ 1000) : pb_M w l yX3_leads cX3_leads 5 (some .boolean) 4 (0) (0) [.ref (o), .int (iZ (((s : Nat) : Int))), .int (iZ (x)), .int (iZ (y)), .int (iZ (3))] H (pb_qx (.int (iZ (bI (ldr (mg S s) x y 3)))) H) := by
  refine pb_of (by decide +kernel) (Nat.le_of_ble_eq_true rfl) ?_
  intro p_ e_ s_ m_ ar_ bl_ me_ co_ ls C hh hG hl
  have hl : lv_has ls 5 [(0, .ref (o)), (1, .int (iZ (((s : Nat) : Int)))), (2, .int (iZ (x))), (3, .int (iZ (y))), (4, .int (iZ (3)))] := hl
  have hM0 := hM; obtain ⟨hz, hO, hA1, hA2, hA3, hA4, hA5, hA6, hA7, hA8, hA9, hA10, hA11, hA12⟩ := hM0
  refine pb_iload C dX3_leads_0 (lv_at hl 4 rfl) ?_
  refine pb_tswO C (x := 3) (tgt := 116) dX3_leads_2 (by decide) (by decide) (by decide) ?_
  refine pb_aload_n C dX3_leads_116 rfl (lv_at hl 0 rfl) ?_
  refine pb_iload_n C dX3_leads_117 rfl (lv_at hl 1 rfl) ?_
  refine pb_iload_n C dX3_leads_118 rfl (lv_at hl 2 rfl) ?_
  refine pb_iload_n C dX3_leads_119 rfl (lv_at hl 3 rfl) ?_
  refine pb_ic C dX3_leads_120 ?_
  refine pb_isub C dX3_leads_121 ?_
  refine pb_go_x (bc' := 0) (bs' := 0) (pb_runV (rest := []) C hG (met_X3_has l o S hM s hs hb x ((y - 1)) (by omega) (by omega)) hO.r (ci := 2) rfl (lw_V q1875 q1877 qs35 q60 q1878) ⟨rfl, hdX3_has⟩ rfl hl.1 rfl (Nat.le_of_ble_eq_true rfl) ⟨(Nat.le_of_ble_eq_true rfl), (Nat.le_of_ble_eq_true rfl)⟩ dX3_leads_122) (by omega) (by omega) ?_
  refine pb_ifB_eq C dX3_leads_125 (tgt := 146) (by decide) (fun c125_ => ?_) (fun c125_ => ?_)
  · refine pb_ic C dX3_leads_146 ?_
    exact pb_zret C dX3_leads_147 (by decide +kernel) (⟨by rw [show ldr (mg S s) x y 3 = false from by unfold ldr; rw [c125_]; rfl]; rfl, rfl⟩)
  · refine pb_aload_n C dX3_leads_128 rfl (lv_at hl 0 rfl) ?_
    refine pb_iload_n C dX3_leads_129 rfl (lv_at hl 1 rfl) ?_
    refine pb_iload_n C dX3_leads_130 rfl (lv_at hl 2 rfl) ?_
    refine pb_ic C dX3_leads_131 ?_
    refine pb_isub C dX3_leads_132 ?_
    refine pb_iload_n C dX3_leads_133 rfl (lv_at hl 3 rfl) ?_
    refine pb_ic C dX3_leads_134 ?_
    refine pb_isub C dX3_leads_135 ?_
    refine pb_go_x (bc' := 0) (bs' := 0) (pb_runV (rest := []) C hG (met_X3_has l o S hM s hs hb ((x - 1)) ((y - 1)) (by omega) (by omega)) hO.r (ci := 2) rfl (lw_V q1875 q1877 qs35 q60 q1878) ⟨rfl, hdX3_has⟩ rfl hl.1 rfl (Nat.le_of_ble_eq_true rfl) ⟨(Nat.le_of_ble_eq_true rfl), (Nat.le_of_ble_eq_true rfl)⟩ dX3_leads_136) (by omega) (by omega) ?_
    refine pb_ifB_ne C dX3_leads_139 (tgt := 146) (by decide) (fun c139_ => ?_) (fun c139_ => ?_)
    · refine pb_ic C dX3_leads_146 ?_
      exact pb_zret C dX3_leads_147 (by decide +kernel) (⟨by rw [show ldr (mg S s) x y 3 = false from by unfold ldr; rw [c125_, c139_]; rfl]; rfl, rfl⟩)
    · refine pb_ic C dX3_leads_142 ?_
      refine pb_goto C dX3_leads_143 (tgt := 147) (by decide) ?_
      exact pb_zret C dX3_leads_147 (by decide +kernel) (⟨by rw [show ldr (mg S s) x y 3 = true from by unfold ldr; rw [c125_, c139_]; rfl]; rfl, rfl⟩)

theorem met_X3_leads {w : pb_W} (l : Launch) {H : Heap} (o : Nat) (S : mS) (hM : MW w H o S) (s : Nat) (hs : s < 8) (hb : mok S) (x y : Int) (hx : -1000 ≤ x ∧ x ≤ 1000) (hy : -1000 ≤ y ∧ y ≤ 1000) (way : Nat) (hw : way < 4) : pb_M w l yX3_leads cX3_leads 5 (some .boolean) 4 (0) (0) [.ref (o), .int (iZ (((s : Nat) : Int))), .int (iZ (x)), .int (iZ (y)), .int (iZ ((way : Nat) : Int))] H (pb_qx (.int (iZ (bI (ldr (mg S s) x y way)))) H) := by
  match way, hw with
  | 0, _ => exact met_X3_leads_0 l o S hM s hs hb x y hx hy
  | 1, _ => exact met_X3_leads_1 l o S hM s hs hb x y hx hy
  | 2, _ => exact met_X3_leads_2 l o S hM s hs hb x y hx hy
  | 3, _ => exact met_X3_leads_3 l o S hM s hs hb x y hx hy

set_option maxHeartbeats 1000000 in
theorem met_X3_isWalked {w : pb_W} (l : Launch) {H : Heap} (o : Nat) (S : mS) (hM : MW w H o S) (x y way : Nat) (hx : x ≤ 24) (hy : y ≤ 24) (hw : way < 4) (hwk : ∀ i, i < 625 → S.2.1 4 i < 16) : pb_M w l yX3_isWalked cX3_isWalked 4 (some .boolean) 0 (0) (0) [.ref (o), .int (iZ (((x : Nat) : Int))), .int (iZ (((y : Nat) : Int))), .int (iZ (((way : Nat) : Int)))] H (pb_qx (.int (iZ (bI ((S.2.1 4 (25 * y + x)).testBit way)))) H) := by
  refine pb_of (by decide +kernel) (Nat.le_of_ble_eq_true rfl) ?_
  intro p_ e_ s_ m_ ar_ bl_ me_ co_ ls C hh hG hl
  have hl : lv_has ls 4 [(0, .ref (o)), (1, .int (iZ (((x : Nat) : Int)))), (2, .int (iZ (((y : Nat) : Int)))), (3, .int (iZ (((way : Nat) : Int))))] := hl
  have hM0 := hM; obtain ⟨hz, hO, hA1, hA2, hA3, hA4, hA5, hA6, hA7, hA8, hA9, hA10, hA11, hA12⟩ := hM0
  refine pb_aload_n C dX3_isWalked_0 rfl (lv_at hl 0 rfl) ?_
  refine pb_get C in_X3 hO.r (ci := 2) rfl 13 (by decide) q1750 (fun _ h9 => h9) (v := .ref (o + 12)) rfl dX3_isWalked_1 ?_
  refine pb_bip C dX3_isWalked_4 (by decide) ?_
  refine pb_iload_n C dX3_isWalked_6 rfl (lv_at hl 2 rfl) ?_
  refine pb_imul C dX3_isWalked_7 ?_
  refine pb_iload_n C dX3_isWalked_8 rfl (lv_at hl 1 rfl) ?_
  refine pb_iadd C dX3_isWalked_9 ?_
  refine pb_iald C hA12.b (i := ((((25 * y) + x) : Nat) : Int)) (v := .int (iZ ((((S.2.1 4 (((25 * y) + x))) : Nat) : Int)))) (by omega) rfl dX3_isWalked_10 ?_
  refine pb_iload_n C dX3_isWalked_11 rfl (lv_at hl 3 rfl) ?_
  refine pb_ishr C dX3_isWalked_12 (x := (S.2.1 4 (((25 * y) + x)))) (y := way) (by have := hwk (25 * y + x) (by omega); omega) (by omega) ?_
  refine pb_ic C dX3_isWalked_13 ?_
  refine pb_iand C dX3_isWalked_14 (x := ((S.2.1 4 (((25 * y) + x))) >>> way)) (y := 1) ?_
  refine pb_ic C dX3_isWalked_15 ?_
  refine pb_icmp_ne C dX3_isWalked_16 (x := (((((S.2.1 4 (((25 * y) + x))) >>> way) &&& 1) : Nat) : Int)) (y := 1) (tgt := 23) (by decide) (pb_a1 _) (by omega) (fun c16_ => ?_) (fun c16_ => ?_)
  · refine pb_ic C dX3_isWalked_23 ?_
    exact pb_zret C dX3_isWalked_24 (by decide +kernel) (⟨by rw [show (S.2.1 4 (25 * y + x)).testBit way = false from by have := (pb_bit (S.2.1 4 (25 * y + x)) way); cases h9 : (S.2.1 4 (25 * y + x)).testBit way <;> simp_all]; rfl, rfl⟩)
  · refine pb_ic C dX3_isWalked_19 ?_
    refine pb_goto C dX3_isWalked_20 (tgt := 24) (by decide) ?_
    exact pb_zret C dX3_isWalked_24 (by decide +kernel) (⟨by rw [show (S.2.1 4 (25 * y + x)).testBit way = true from by exact bit_t (fun z => absurd (c16_.symm.trans z) (by decide))]; rfl, rfl⟩)

set_option maxHeartbeats 1000000 in
theorem met_X3_moment {w : pb_W} (l : Launch) {H0 : Heap} (o : Nat) (S : mS) (hM : MW w H0 o S) (s : Nat) (hs : s < 8) (hb : mok S) : pb_M w l yX3_moment cX3_moment 6 (some .long) 5 (0) (0) [.ref (o), .int (iZ (((s : Nat) : Int)))] H0 (pb_ql (fun z H1 => z = ((momV (mg S s) : Nat) : Int) ∧ MW w H1 o (mI S 0 0) ∧ mF o H0 H1)) := by
  refine pb_of (by decide +kernel) (Nat.le_of_ble_eq_true rfl) ?_
  intro p_ e_ s_ m_ ar_ bl_ me_ co_ ls C hh hG hl
  have hl : lv_has ls 6 [(0, .ref (o)), (1, .int (iZ (((s : Nat) : Int))))] := hl
  have hM0 := hM; obtain ⟨hz, hO, hA1, hA2, hA3, hA4, hA5, hA6, hA7, hA8, hA9, hA10, hA11, hA12⟩ := hM0
  have hF : mF o H0 H0 := mF.rf
  have L15 : ∀ (n_ : Nat) (k : Nat) (t : Int) (H : Heap), 24 - k = n_ → (pb_G w s_ H) → (MW w H o (mI S 0 0)) → (mF o H0 H) → (k ≤ 24) → (t = ((sm (fun y => sm (momR (mg S s) y) 24) k : Nat) : Int)) → ∀ (ls : Array Slot), lv_has ls 6 [(0, .ref (o)), (1, .int (iZ (((s : Nat) : Int)))), (2, .long (lZ (t))), (4, .int (iZ (((k : Nat) : Int))))] → pb_V w.2.2.2 p_ l e_ (pb_rm 5 (0) (0)) s_ m_ ar_ bl_ me_ co_ H (0) (0) (pb_E w bl_ ar_ s_ (0) (0) (pb_ql (fun z H1 => z = ((momV (mg S s) : Nat) : Int) ∧ MW w H1 o (mI S 0 0) ∧ mF o H0 H1))) (F0 m_ 15 ls []) := by
    intro n_
    induction n_ using Nat.strongRecOn with
    | _ n_ ih15 =>
    intro k t H hm_ hG hM hF hk ht ls hl
    have hM0 := hM; obtain ⟨hz, hO, hA1, hA2, hA3, hA4, hA5, hA6, hA7, hA8, hA9, hA10, hA11, hA12⟩ := hM0
    have hO : pb_O w H o 2 [.int (iZ ((0))), .int (iZ ((S.1 1))), .ref (o + 1), .ref (o + 2), .ref (o + 3), .ref (o + 4), .ref (o + 5), .ref (o + 6), .ref (o + 7), .ref (o + 8), .ref (o + 9), .ref (o + 10), .ref (o + 11), .ref (o + 12), .int (iZ ((S.1 2))), .int (iZ ((S.1 3)))] := hO
    have hA1 : pb_A w H (o + 1) 0 192 (pb_nf (S.2.1 0)) := hA1
    have hA2 : pb_A w H (o + 2) 0 24 (pb_nf (S.2.1 1)) := hA2
    have hA3 : pb_A w H (o + 3) 0 26 (pb_nf (S.2.1 2)) := hA3
    have hA4 : pb_A w H (o + 4) 0 26 (pb_nf (S.2.1 3)) := hA4
    have hA5 : pb_A w H (o + 5) 0 40 (pb_zf (S.2.2 0)) := hA5
    have hA6 : pb_A w H (o + 6) 0 40 (pb_zf (S.2.2 1)) := hA6
    have hA7 : pb_A w H (o + 7) 0 576 (pb_zf (S.2.2 2)) := hA7
    have hA8 : pb_A w H (o + 8) 0 1300 (pb_zf (S.2.2 3)) := hA8
    have hA9 : pb_A w H (o + 9) 0 1300 (pb_zf (S.2.2 4)) := hA9
    have hA10 : pb_A w H (o + 10) 0 400 (pb_zf (S.2.2 5)) := hA10
    have hA11 : pb_A w H (o + 11) 0 400 (pb_zf (S.2.2 6)) := hA11
    have hA12 : pb_A w H (o + 12) 0 625 (pb_nf (S.2.1 4)) := hA12
    have L25 : ∀ (n_ : Nat) (j : Nat) (t2 : Int) (H : Heap), 24 - j = n_ → (pb_G w s_ H) → (MW w H o (mI S 0 0)) → (mF o H0 H) → (k < 24) → (j ≤ 24) → (t2 = ((sm (fun y => sm (momR (mg S s) y) 24) k + sm (momR (mg S s) k) j : Nat) : Int)) → ∀ (ls : Array Slot), lv_has ls 6 [(0, .ref (o)), (1, .int (iZ (((s : Nat) : Int)))), (2, .long (lZ (t2))), (4, .int (iZ (((k : Nat) : Int)))), (5, .int (iZ (((j : Nat) : Int))))] → pb_V w.2.2.2 p_ l e_ (pb_rm 5 (0) (0)) s_ m_ ar_ bl_ me_ co_ H (0) (0) (pb_E w bl_ ar_ s_ (0) (0) (pb_ql (fun z H1 => z = ((momV (mg S s) : Nat) : Int) ∧ MW w H1 o (mI S 0 0) ∧ mF o H0 H1))) (F0 m_ 25 ls []) := by
      intro n_
      induction n_ using Nat.strongRecOn with
      | _ n_ ih25 =>
      intro j t2 H hm_ hG hM hF hk3 hj ht2 ls hl
      have hM0 := hM; obtain ⟨hz, hO, hA1, hA2, hA3, hA4, hA5, hA6, hA7, hA8, hA9, hA10, hA11, hA12⟩ := hM0
      have hO : pb_O w H o 2 [.int (iZ ((0))), .int (iZ ((S.1 1))), .ref (o + 1), .ref (o + 2), .ref (o + 3), .ref (o + 4), .ref (o + 5), .ref (o + 6), .ref (o + 7), .ref (o + 8), .ref (o + 9), .ref (o + 10), .ref (o + 11), .ref (o + 12), .int (iZ ((S.1 2))), .int (iZ ((S.1 3)))] := hO
      have hA1 : pb_A w H (o + 1) 0 192 (pb_nf (S.2.1 0)) := hA1
      have hA2 : pb_A w H (o + 2) 0 24 (pb_nf (S.2.1 1)) := hA2
      have hA3 : pb_A w H (o + 3) 0 26 (pb_nf (S.2.1 2)) := hA3
      have hA4 : pb_A w H (o + 4) 0 26 (pb_nf (S.2.1 3)) := hA4
      have hA5 : pb_A w H (o + 5) 0 40 (pb_zf (S.2.2 0)) := hA5
      have hA6 : pb_A w H (o + 6) 0 40 (pb_zf (S.2.2 1)) := hA6
      have hA7 : pb_A w H (o + 7) 0 576 (pb_zf (S.2.2 2)) := hA7
      have hA8 : pb_A w H (o + 8) 0 1300 (pb_zf (S.2.2 3)) := hA8
      have hA9 : pb_A w H (o + 9) 0 1300 (pb_zf (S.2.2 4)) := hA9
      have hA10 : pb_A w H (o + 10) 0 400 (pb_zf (S.2.2 5)) := hA10
      have hA11 : pb_A w H (o + 11) 0 400 (pb_zf (S.2.2 6)) := hA11
      have hA12 : pb_A w H (o + 12) 0 625 (pb_nf (S.2.1 4)) := hA12
      refine pb_iload C dX3_moment_25 (lv_at hl 4 rfl) ?_
      refine pb_bip C dX3_moment_27 (by decide) ?_
      refine pb_icmp_ge C dX3_moment_29 (x := ((j : Nat) : Int)) (y := 24) (tgt := 69) (by decide) (by omega) (by omega) (fun c29_ => ?_) (fun c29_ => ?_)
      · have hend : t2 = ((sm (fun y => sm (momR (mg S s) y) 24) (k + 1) : Nat) : Int) := by rw [ht2, show j = 24 from by omega]; rfl
        refine pb_iinc C dX3_moment_69 hl (j := 3) (x := (((k : Nat) : Int))) rfl (by decide) rfl fun ls hl => ?_
        have hl : lv_has ls 6 [(4, .int (iZ ((((k + 1) : Nat) : Int)))), (0, .ref (o)), (1, .int (iZ (((s : Nat) : Int)))), (2, .long (lZ (t2))), (5, .int (iZ (((j : Nat) : Int))))] := hl
        refine pb_goto C dX3_moment_72 (tgt := 15) (by decide) ?_
        exact pb_V.mono (by omega) (by omega) (ih15 _ (by omega) (k + 1) t2 H rfl hG hM hF (by omega) hend ls (lv_sub hl [1, 2, 3, 0] rfl))
      · have hjj : j * j ≤ 23 * 23 := Nat.mul_le_mul (by omega) (by omega)
        have hkk : k * k ≤ 23 * 23 := Nat.mul_le_mul (by omega) (by omega)
        refine pb_lload_n C dX3_moment_32 rfl (lv_at hl 2 rfl) ?_
        refine pb_aload_n C dX3_moment_33 rfl (lv_at hl 0 rfl) ?_
        refine pb_iload_n C dX3_moment_34 rfl (lv_at hl 1 rfl) ?_
        refine pb_iload C dX3_moment_35 (lv_at hl 4 rfl) ?_
        refine pb_iload C dX3_moment_37 (lv_at hl 3 rfl) ?_
        refine pb_go_x (bc' := 0) (bs' := 0) (pb_runV (rest := [.long (lZ (t2))]) C hG (met_X3_has l o (mI S 0 0) hM s hs hb ((j : Nat) : Int) ((k : Nat) : Int) (by omega) (by omega)) hO.r (ci := 2) rfl (lw_V q1875 q1877 qs35 q60 q1878) ⟨rfl, hdX3_has⟩ rfl hl.1 rfl (Nat.le_of_ble_eq_true rfl) ⟨(Nat.le_of_ble_eq_true rfl), (Nat.le_of_ble_eq_true rfl)⟩ dX3_moment_39) (by omega) (by omega) ?_
        refine pb_ifB_eq C dX3_moment_42 (tgt := 60) (by decide) (fun c42_ => ?_) (fun c42_ => ?_)
        · refine pb_lc C dX3_moment_60 (0) (by decide +kernel) ?_
          refine pb_ladd C dX3_moment_61 ?_
          refine pb_lstore_n C dX3_moment_62 rfl hl (by decide) rfl fun ls hl => ?_
          have hl : lv_has ls 6 [(2, .long (lZ ((t2 + 0)))), (0, .ref (o)), (1, .int (iZ (((s : Nat) : Int)))), (4, .int (iZ (((k : Nat) : Int)))), (5, .int (iZ (((j : Nat) : Int))))] := hl
          refine pb_iinc C dX3_moment_63 hl (j := 4) (x := (((j : Nat) : Int))) rfl (by decide) rfl fun ls hl => ?_
          have hl : lv_has ls 6 [(5, .int (iZ ((((j + 1) : Nat) : Int)))), (2, .long (lZ ((t2 + 0)))), (0, .ref (o)), (1, .int (iZ (((s : Nat) : Int)))), (4, .int (iZ (((k : Nat) : Int))))] := hl
          refine pb_goto C dX3_moment_66 (tgt := 25) (by decide) ?_
          exact pb_V.mono (by omega) (by omega) (ih25 _ (by omega) (j + 1) (t2 + 0) H rfl hG hM hF (by omega) (by omega) (by rw [sm, ht2, show momR (mg S s) k j = 0 from if_neg (Bool.eq_false_iff.mp c42_)]; omega) ls (lv_sub hl [2, 3, 1, 4, 0] rfl))
        · refine pb_iload C dX3_moment_45 (lv_at hl 4 rfl) ?_
          refine pb_iload C dX3_moment_47 (lv_at hl 4 rfl) ?_
          refine pb_imul C dX3_moment_49 ?_
          refine pb_iload C dX3_moment_50 (lv_at hl 3 rfl) ?_
          refine pb_iload C dX3_moment_52 (lv_at hl 3 rfl) ?_
          refine pb_imul C dX3_moment_54 ?_
          refine pb_iadd C dX3_moment_55 ?_
          refine pb_i2l C dX3_moment_56 (x := ((((j * j) + (k * k)) : Nat) : Int)) (by omega) ?_
          refine pb_goto C dX3_moment_57 (tgt := 61) (by decide) ?_
          refine pb_ladd C dX3_moment_61 ?_
          refine pb_lstore_n C dX3_moment_62 rfl hl (by decide) rfl fun ls hl => ?_
          have hl : lv_has ls 6 [(2, .long (lZ ((t2 + ((((j * j) + (k * k)) : Nat) : Int))))), (0, .ref (o)), (1, .int (iZ (((s : Nat) : Int)))), (4, .int (iZ (((k : Nat) : Int)))), (5, .int (iZ (((j : Nat) : Int))))] := hl
          refine pb_iinc C dX3_moment_63 hl (j := 4) (x := (((j : Nat) : Int))) rfl (by decide) rfl fun ls hl => ?_
          have hl : lv_has ls 6 [(5, .int (iZ ((((j + 1) : Nat) : Int)))), (2, .long (lZ ((t2 + ((((j * j) + (k * k)) : Nat) : Int))))), (0, .ref (o)), (1, .int (iZ (((s : Nat) : Int)))), (4, .int (iZ (((k : Nat) : Int))))] := hl
          refine pb_goto C dX3_moment_66 (tgt := 25) (by decide) ?_
          exact pb_V.mono (by omega) (by omega) (ih25 _ (by omega) (j + 1) (t2 + ((((j * j) + (k * k)) : Nat) : Int)) H rfl hG hM hF (by omega) (by omega) (by rw [sm, ht2, show momR (mg S s) k j = j * j + k * k from if_pos c42_]; omega) ls (lv_sub hl [2, 3, 1, 4, 0] rfl))
    refine pb_iload C dX3_moment_15 (lv_at hl 3 rfl) ?_
    refine pb_bip C dX3_moment_17 (by decide) ?_
    refine pb_icmp_ge C dX3_moment_19 (x := ((k : Nat) : Int)) (y := 24) (tgt := 75) (by decide) (by omega) (by omega) (fun c19_ => ?_) (fun c19_ => ?_)
    · refine pb_lload_n C dX3_moment_75 rfl (lv_at hl 2 rfl) ?_
      exact pb_lret C dX3_moment_76 (⟨_, rfl, by rw [ht, show k = 24 from by omega]; rfl, hM, hF⟩)
    · refine pb_ic C dX3_moment_22 ?_
      refine pb_istore C dX3_moment_23 hl (by decide) rfl fun ls hl => ?_
      have hl : lv_has ls 6 [(5, .int (iZ (0))), (0, .ref (o)), (1, .int (iZ (((s : Nat) : Int)))), (2, .long (lZ (t))), (4, .int (iZ (((k : Nat) : Int))))] := hl
      exact pb_V.mono (by omega) (by omega) (L25 _ 0 t H rfl hG hM hF (by omega) (by omega) (by rw [ht]; rfl) ls (lv_sub hl [1, 2, 3, 4, 0] rfl))
  refine pb_aload_n C dX3_moment_0 rfl (lv_at hl 0 rfl) ?_
  refine pb_iload_n C dX3_moment_1 rfl (lv_at hl 1 rfl) ?_
  refine pb_go_i (bc' := 0) (bs' := 0) (pb_runV (rest := []) C hG (met_X3_looks l o S hM s hs) hO.r (ci := 2) rfl (lw_V q1937 q1939 qs40 q60 q1940) ⟨rfl, hdX3_looks⟩ rfl hl.1 rfl (Nat.le_of_ble_eq_true rfl) ⟨(Nat.le_of_ble_eq_true rfl), (Nat.le_of_ble_eq_true rfl)⟩ dX3_moment_2) (by omega) (by omega) (fun z_ H_ hp_ => ?_)
  obtain ⟨rfl, hM, hF⟩ := hp_
  have hG := hG.kept (hF.z hz)
  have hO := hM.2.1
  refine pb_if_ne C dX3_moment_5 (x := 1) (tgt := 10) (by decide) (by omega) (fun c5_ => ?_) (fun c5_ => ?_)
  · refine pb_lc C dX3_moment_10 (0) (by decide +kernel) ?_
    refine pb_lstore_n C dX3_moment_11 rfl hl (by decide) rfl fun ls hl => ?_
    have hl : lv_has ls 6 [(2, .long (lZ (0))), (0, .ref (o)), (1, .int (iZ (((s : Nat) : Int))))] := hl
    refine pb_ic C dX3_moment_12 ?_
    refine pb_istore C dX3_moment_13 hl (by decide) rfl fun ls hl => ?_
    have hl : lv_has ls 6 [(4, .int (iZ (0))), (2, .long (lZ (0))), (0, .ref (o)), (1, .int (iZ (((s : Nat) : Int))))] := hl
    exact pb_V.mono (by omega) (by omega) (L15 _ 0 0 H_ rfl hG hM hF (by omega) rfl ls (lv_sub hl [2, 3, 1, 0] rfl))
  · exact absurd c5_ (by decide)

set_option maxHeartbeats 1000000 in
theorem met_X3_moment_1 {w : pb_W} (l : Launch) {H0 : Heap} (o : Nat) (S : mS) (hM : MW w H0 o S) (s : Int) (hsr : -2147483648 ≤ s ∧ s ≤ 2147483647) (hs : ¬ (0 ≤ s ∧ s ≤ 7)) : pb_M w l yX3_moment cX3_moment 6 (some .long) 5 (0) (0) [.ref (o), .int (iZ (s))] H0 (pb_ql (fun z H1 => z = 0 ∧ MW w H1 o (mI S 0 1) ∧ mF o H0 H1)) := by
  refine pb_of (by decide +kernel) (Nat.le_of_ble_eq_true rfl) ?_
  intro p_ e_ s_ m_ ar_ bl_ me_ co_ ls C hh hG hl
  have hl : lv_has ls 6 [(0, .ref (o)), (1, .int (iZ (s)))] := hl
  have hM0 := hM; obtain ⟨hz, hO, hA1, hA2, hA3, hA4, hA5, hA6, hA7, hA8, hA9, hA10, hA11, hA12⟩ := hM0
  have hF : mF o H0 H0 := mF.rf
  refine pb_aload_n C dX3_moment_0 rfl (lv_at hl 0 rfl) ?_
  refine pb_iload_n C dX3_moment_1 rfl (lv_at hl 1 rfl) ?_
  refine pb_go_i (bc' := 0) (bs' := 0) (pb_runV (rest := []) C hG (met_X3_looks_1 l o S hM s hsr hs) hO.r (ci := 2) rfl (lw_V q1937 q1939 qs40 q60 q1940) ⟨rfl, hdX3_looks⟩ rfl hl.1 rfl (Nat.le_of_ble_eq_true rfl) ⟨(Nat.le_of_ble_eq_true rfl), (Nat.le_of_ble_eq_true rfl)⟩ dX3_moment_2) (by omega) (by omega) (fun z_ H_ hp_ => ?_)
  obtain ⟨rfl, hM, hF⟩ := hp_
  refine pb_if_ne C dX3_moment_5 (x := 0) (tgt := 10) (by decide) (by omega) (fun c5_ => ?_) (fun c5_ => ?_)
  · exact absurd c5_ (by decide)
  · refine pb_lc C dX3_moment_8 (0) (by decide +kernel) ?_
    exact pb_lret C dX3_moment_9 (⟨_, rfl, rfl, hM, hF⟩)

set_option maxHeartbeats 1000000 in
theorem met_X3_momentByCells {w : pb_W} (l : Launch) {H0 : Heap} (o : Nat) (S : mS) (hM : MW w H0 o S) (s : Nat) (hs : s < 8) (hb : mok S) : pb_M w l yX3_momentByCells cX3_momentByCells 2 (some .long) 6 (0) (0) [.ref (o), .int (iZ (((s : Nat) : Int)))] H0 (pb_ql (fun z H1 => z = ((momV (mg S s) : Nat) : Int) ∧ MW w H1 o (mI S 0 0) ∧ mF o H0 H1)) := by
  refine pb_of (by decide +kernel) (Nat.le_of_ble_eq_true rfl) ?_
  intro p_ e_ s_ m_ ar_ bl_ me_ co_ ls C hh hG hl
  have hl : lv_has ls 2 [(0, .ref (o)), (1, .int (iZ (((s : Nat) : Int))))] := hl
  have hM0 := hM; obtain ⟨hz, hO, hA1, hA2, hA3, hA4, hA5, hA6, hA7, hA8, hA9, hA10, hA11, hA12⟩ := hM0
  have hF : mF o H0 H0 := mF.rf
  refine pb_aload_n C dX3_momentByCells_0 rfl (lv_at hl 0 rfl) ?_
  refine pb_iload_n C dX3_momentByCells_1 rfl (lv_at hl 1 rfl) ?_
  refine pb_go_l (bc' := 0) (bs' := 0) (pb_runV (rest := []) C hG (met_X3_moment l o S hM s hs hb) hO.r (ci := 2) rfl (lw_V q2099 q2092 q2093 q60 q2094) ⟨rfl, hdX3_moment⟩ rfl hl.1 rfl (Nat.le_of_ble_eq_true rfl) ⟨(Nat.le_of_ble_eq_true rfl), (Nat.le_of_ble_eq_true rfl)⟩ dX3_momentByCells_2) (by omega) (by omega) (fun z_ H_ hp_ => ?_)
  obtain ⟨hz_, hM, hF⟩ := hp_
  exact pb_lret C dX3_momentByCells_5 (⟨_, rfl, hz_, hM, hF⟩)

set_option maxHeartbeats 1000000 in
theorem met_X3_momentByCells_1 {w : pb_W} (l : Launch) {H0 : Heap} (o : Nat) (S : mS) (hM : MW w H0 o S) (s : Int) (hsr : -2147483648 ≤ s ∧ s ≤ 2147483647) (hs : ¬ (0 ≤ s ∧ s ≤ 7)) : pb_M w l yX3_momentByCells cX3_momentByCells 2 (some .long) 6 (0) (0) [.ref (o), .int (iZ (s))] H0 (pb_ql (fun z H1 => z = 0 ∧ MW w H1 o (mI S 0 1) ∧ mF o H0 H1)) := by
  refine pb_of (by decide +kernel) (Nat.le_of_ble_eq_true rfl) ?_
  intro p_ e_ s_ m_ ar_ bl_ me_ co_ ls C hh hG hl
  have hl : lv_has ls 2 [(0, .ref (o)), (1, .int (iZ (s)))] := hl
  have hM0 := hM; obtain ⟨hz, hO, hA1, hA2, hA3, hA4, hA5, hA6, hA7, hA8, hA9, hA10, hA11, hA12⟩ := hM0
  have hF : mF o H0 H0 := mF.rf
  refine pb_aload_n C dX3_momentByCells_0 rfl (lv_at hl 0 rfl) ?_
  refine pb_iload_n C dX3_momentByCells_1 rfl (lv_at hl 1 rfl) ?_
  refine pb_go_l (bc' := 0) (bs' := 0) (pb_runV (rest := []) C hG (met_X3_moment_1 l o S hM s hsr hs) hO.r (ci := 2) rfl (lw_V q2099 q2092 q2093 q60 q2094) ⟨rfl, hdX3_moment⟩ rfl hl.1 rfl (Nat.le_of_ble_eq_true rfl) ⟨(Nat.le_of_ble_eq_true rfl), (Nat.le_of_ble_eq_true rfl)⟩ dX3_momentByCells_2) (by omega) (by omega) (fun z_ H_ hp_ => ?_)
  obtain ⟨rfl, hM, hF⟩ := hp_
  exact pb_lret C dX3_momentByCells_5 (⟨_, rfl, rfl, hM, hF⟩)

set_option maxHeartbeats 1000000 in
theorem met_X3_middleX {w : pb_W} (l : Launch) {H0 : Heap} (o : Nat) (S : mS) (hM : MW w H0 o S) (s : Nat) (hs : s < 8) (hb : mok S) (hc : cnt (mg S s) ≠ 0) : pb_M w l yX3_middleX cX3_middleX 5 (some .double) 6 (0) (0) [.ref (o), .int (iZ (((s : Nat) : Int)))] H0 (pb_qq (fun z H1 => z = .double (midV (midX (mg S s)) (cnt (mg S s))) ∧ MW w H1 o (mI S 0 0) ∧ mF o H0 H1)) := by
  refine pb_of (by decide +kernel) (Nat.le_of_ble_eq_true rfl) ?_
  intro p_ e_ s_ m_ ar_ bl_ me_ co_ ls C hh hG hl
  have hl : lv_has ls 5 [(0, .ref (o)), (1, .int (iZ (((s : Nat) : Int))))] := hl
  have hM0 := hM; obtain ⟨hz, hO, hA1, hA2, hA3, hA4, hA5, hA6, hA7, hA8, hA9, hA10, hA11, hA12⟩ := hM0
  have hF : mF o H0 H0 := mF.rf
  have L14 : ∀ (n_ : Nat) (k : Nat) (t : Nat) (H : Heap), 24 - k = n_ → (pb_G w s_ H) → (MW w H o (mI S 0 0)) → (mF o H0 H) → (k ≤ 24) → (t = sm (fun y => sm (midR (mg S s) y) 24) k) → ∀ (ls : Array Slot), lv_has ls 5 [(0, .ref (o)), (1, .int (iZ (((s : Nat) : Int)))), (2, .int (iZ (((t : Nat) : Int)))), (3, .int (iZ (((k : Nat) : Int))))] → pb_V w.2.2.2 p_ l e_ (pb_rm 6 (0) (0)) s_ m_ ar_ bl_ me_ co_ H (0) (0) (pb_E w bl_ ar_ s_ (0) (0) (pb_qq (fun z H1 => z = .double (midV (midX (mg S s)) (cnt (mg S s))) ∧ MW w H1 o (mI S 0 0) ∧ mF o H0 H1))) (F0 m_ 14 ls []) := by
    intro n_
    induction n_ using Nat.strongRecOn with
    | _ n_ ih14 =>
    intro k t H hm_ hG hM hF hk ht ls hl
    have hM0 := hM; obtain ⟨hz, hO, hA1, hA2, hA3, hA4, hA5, hA6, hA7, hA8, hA9, hA10, hA11, hA12⟩ := hM0
    have hO : pb_O w H o 2 [.int (iZ ((0))), .int (iZ ((S.1 1))), .ref (o + 1), .ref (o + 2), .ref (o + 3), .ref (o + 4), .ref (o + 5), .ref (o + 6), .ref (o + 7), .ref (o + 8), .ref (o + 9), .ref (o + 10), .ref (o + 11), .ref (o + 12), .int (iZ ((S.1 2))), .int (iZ ((S.1 3)))] := hO
    have hA1 : pb_A w H (o + 1) 0 192 (pb_nf (S.2.1 0)) := hA1
    have hA2 : pb_A w H (o + 2) 0 24 (pb_nf (S.2.1 1)) := hA2
    have hA3 : pb_A w H (o + 3) 0 26 (pb_nf (S.2.1 2)) := hA3
    have hA4 : pb_A w H (o + 4) 0 26 (pb_nf (S.2.1 3)) := hA4
    have hA5 : pb_A w H (o + 5) 0 40 (pb_zf (S.2.2 0)) := hA5
    have hA6 : pb_A w H (o + 6) 0 40 (pb_zf (S.2.2 1)) := hA6
    have hA7 : pb_A w H (o + 7) 0 576 (pb_zf (S.2.2 2)) := hA7
    have hA8 : pb_A w H (o + 8) 0 1300 (pb_zf (S.2.2 3)) := hA8
    have hA9 : pb_A w H (o + 9) 0 1300 (pb_zf (S.2.2 4)) := hA9
    have hA10 : pb_A w H (o + 10) 0 400 (pb_zf (S.2.2 5)) := hA10
    have hA11 : pb_A w H (o + 11) 0 400 (pb_zf (S.2.2 6)) := hA11
    have hA12 : pb_A w H (o + 12) 0 625 (pb_nf (S.2.1 4)) := hA12
    have L23 : ∀ (n_ : Nat) (j : Nat) (t2 : Nat) (H : Heap), 24 - j = n_ → (pb_G w s_ H) → (MW w H o (mI S 0 0)) → (mF o H0 H) → (k < 24) → (j ≤ 24) → (t2 = sm (fun y => sm (midR (mg S s) y) 24) k + sm (midR (mg S s) k) j) → ∀ (ls : Array Slot), lv_has ls 5 [(0, .ref (o)), (1, .int (iZ (((s : Nat) : Int)))), (2, .int (iZ (((t2 : Nat) : Int)))), (3, .int (iZ (((k : Nat) : Int)))), (4, .int (iZ (((j : Nat) : Int))))] → pb_V w.2.2.2 p_ l e_ (pb_rm 6 (0) (0)) s_ m_ ar_ bl_ me_ co_ H (0) (0) (pb_E w bl_ ar_ s_ (0) (0) (pb_qq (fun z H1 => z = .double (midV (midX (mg S s)) (cnt (mg S s))) ∧ MW w H1 o (mI S 0 0) ∧ mF o H0 H1))) (F0 m_ 23 ls []) := by
      intro n_
      induction n_ using Nat.strongRecOn with
      | _ n_ ih23 =>
      intro j t2 H hm_ hG hM hF hk3 hj ht2 ls hl
      have hM0 := hM; obtain ⟨hz, hO, hA1, hA2, hA3, hA4, hA5, hA6, hA7, hA8, hA9, hA10, hA11, hA12⟩ := hM0
      have hO : pb_O w H o 2 [.int (iZ ((0))), .int (iZ ((S.1 1))), .ref (o + 1), .ref (o + 2), .ref (o + 3), .ref (o + 4), .ref (o + 5), .ref (o + 6), .ref (o + 7), .ref (o + 8), .ref (o + 9), .ref (o + 10), .ref (o + 11), .ref (o + 12), .int (iZ ((S.1 2))), .int (iZ ((S.1 3)))] := hO
      have hA1 : pb_A w H (o + 1) 0 192 (pb_nf (S.2.1 0)) := hA1
      have hA2 : pb_A w H (o + 2) 0 24 (pb_nf (S.2.1 1)) := hA2
      have hA3 : pb_A w H (o + 3) 0 26 (pb_nf (S.2.1 2)) := hA3
      have hA4 : pb_A w H (o + 4) 0 26 (pb_nf (S.2.1 3)) := hA4
      have hA5 : pb_A w H (o + 5) 0 40 (pb_zf (S.2.2 0)) := hA5
      have hA6 : pb_A w H (o + 6) 0 40 (pb_zf (S.2.2 1)) := hA6
      have hA7 : pb_A w H (o + 7) 0 576 (pb_zf (S.2.2 2)) := hA7
      have hA8 : pb_A w H (o + 8) 0 1300 (pb_zf (S.2.2 3)) := hA8
      have hA9 : pb_A w H (o + 9) 0 1300 (pb_zf (S.2.2 4)) := hA9
      have hA10 : pb_A w H (o + 10) 0 400 (pb_zf (S.2.2 5)) := hA10
      have hA11 : pb_A w H (o + 11) 0 400 (pb_zf (S.2.2 6)) := hA11
      have hA12 : pb_A w H (o + 12) 0 625 (pb_nf (S.2.1 4)) := hA12
      refine pb_iload C dX3_middleX_23 (lv_at hl 4 rfl) ?_
      refine pb_bip C dX3_middleX_25 (by decide) ?_
      refine pb_icmp_ge C dX3_middleX_27 (x := ((j : Nat) : Int)) (y := 24) (tgt := 60) (by decide) (by omega) (by omega) (fun c27_ => ?_) (fun c27_ => ?_)
      · have hend : t2 = sm (fun y => sm (midR (mg S s) y) 24) (k + 1) := by rw [ht2, show j = 24 from by omega]; rfl
        refine pb_iinc C dX3_middleX_60 hl (j := 3) (x := (((k : Nat) : Int))) rfl (by decide) rfl fun ls hl => ?_
        have hl : lv_has ls 5 [(3, .int (iZ ((((k + 1) : Nat) : Int)))), (0, .ref (o)), (1, .int (iZ (((s : Nat) : Int)))), (2, .int (iZ (((t2 : Nat) : Int)))), (4, .int (iZ (((j : Nat) : Int))))] := hl
        refine pb_goto C dX3_middleX_63 (tgt := 14) (by decide) ?_
        exact pb_V.mono (by omega) (by omega) (ih14 _ (by omega) (k + 1) t2 H rfl hG hM hF (by omega) hend ls (lv_sub hl [1, 2, 3, 0] rfl))
      · refine pb_iload_n C dX3_middleX_30 rfl (lv_at hl 2 rfl) ?_
        refine pb_aload_n C dX3_middleX_31 rfl (lv_at hl 0 rfl) ?_
        refine pb_iload_n C dX3_middleX_32 rfl (lv_at hl 1 rfl) ?_
        refine pb_iload C dX3_middleX_33 (lv_at hl 4 rfl) ?_
        refine pb_iload_n C dX3_middleX_35 rfl (lv_at hl 3 rfl) ?_
        refine pb_go_x (bc' := 0) (bs' := 0) (pb_runV (rest := [.int (iZ (((t2 : Nat) : Int)))]) C hG (met_X3_has l o (mI S 0 0) hM s hs hb ((j : Nat) : Int) ((k : Nat) : Int) (by omega) (by omega)) hO.r (ci := 2) rfl (lw_V q1875 q1877 qs35 q60 q1878) ⟨rfl, hdX3_has⟩ rfl hl.1 rfl (Nat.le_of_ble_eq_true rfl) ⟨(Nat.le_of_ble_eq_true rfl), (Nat.le_of_ble_eq_true rfl)⟩ dX3_middleX_36) (by omega) (by omega) ?_
        refine pb_ifB_eq C dX3_middleX_39 (tgt := 51) (by decide) (fun c39_ => ?_) (fun c39_ => ?_)
        · refine pb_ic C dX3_middleX_51 ?_
          refine pb_iadd C dX3_middleX_52 ?_
          refine pb_istore_n C dX3_middleX_53 rfl hl (by decide) rfl fun ls hl => ?_
          have hl : lv_has ls 5 [(2, .int (iZ ((((t2 + 0) : Nat) : Int)))), (0, .ref (o)), (1, .int (iZ (((s : Nat) : Int)))), (3, .int (iZ (((k : Nat) : Int)))), (4, .int (iZ (((j : Nat) : Int))))] := hl
          refine pb_iinc C dX3_middleX_54 hl (j := 4) (x := (((j : Nat) : Int))) rfl (by decide) rfl fun ls hl => ?_
          have hl : lv_has ls 5 [(4, .int (iZ ((((j + 1) : Nat) : Int)))), (2, .int (iZ ((((t2 + 0) : Nat) : Int)))), (0, .ref (o)), (1, .int (iZ (((s : Nat) : Int)))), (3, .int (iZ (((k : Nat) : Int))))] := hl
          refine pb_goto C dX3_middleX_57 (tgt := 23) (by decide) ?_
          exact pb_V.mono (by omega) (by omega) (ih23 _ (by omega) (j + 1) (t2 + 0) H rfl hG hM hF (by omega) (by omega) (by rw [sm, ht2, show midR (mg S s) k j = 0 from if_neg (Bool.eq_false_iff.mp c39_)]; omega) ls (lv_sub hl [2, 3, 1, 4, 0] rfl))
        · refine pb_ic C dX3_middleX_42 ?_
          refine pb_iload C dX3_middleX_43 (lv_at hl 4 rfl) ?_
          refine pb_imul C dX3_middleX_45 ?_
          refine pb_ic C dX3_middleX_46 ?_
          refine pb_iadd C dX3_middleX_47 ?_
          refine pb_goto C dX3_middleX_48 (tgt := 52) (by decide) ?_
          refine pb_iadd C dX3_middleX_52 ?_
          refine pb_istore_n C dX3_middleX_53 rfl hl (by decide) rfl fun ls hl => ?_
          have hl : lv_has ls 5 [(2, .int (iZ ((((t2 + ((2 * j) + 1)) : Nat) : Int)))), (0, .ref (o)), (1, .int (iZ (((s : Nat) : Int)))), (3, .int (iZ (((k : Nat) : Int)))), (4, .int (iZ (((j : Nat) : Int))))] := hl
          refine pb_iinc C dX3_middleX_54 hl (j := 4) (x := (((j : Nat) : Int))) rfl (by decide) rfl fun ls hl => ?_
          have hl : lv_has ls 5 [(4, .int (iZ ((((j + 1) : Nat) : Int)))), (2, .int (iZ ((((t2 + ((2 * j) + 1)) : Nat) : Int)))), (0, .ref (o)), (1, .int (iZ (((s : Nat) : Int)))), (3, .int (iZ (((k : Nat) : Int))))] := hl
          refine pb_goto C dX3_middleX_57 (tgt := 23) (by decide) ?_
          exact pb_V.mono (by omega) (by omega) (ih23 _ (by omega) (j + 1) (t2 + ((2 * j) + 1)) H rfl hG hM hF (by omega) (by omega) (by rw [sm, ht2, show midR (mg S s) k j = 2 * j + 1 from if_pos c39_]; omega) ls (lv_sub hl [2, 3, 1, 4, 0] rfl))
    refine pb_iload_n C dX3_middleX_14 rfl (lv_at hl 3 rfl) ?_
    refine pb_bip C dX3_middleX_15 (by decide) ?_
    refine pb_icmp_ge C dX3_middleX_17 (x := ((k : Nat) : Int)) (y := 24) (tgt := 66) (by decide) (by omega) (by omega) (fun c17_ => ?_) (fun c17_ => ?_)
    · have hcl : cnt (mg (mI S 0 0) s) ≤ 768 := cnt_le _
      have hcp : 0 < cnt (mg (mI S 0 0) s) := Nat.pos_of_ne_zero hc
      refine pb_iload_n C dX3_middleX_66 rfl (lv_at hl 2 rfl) ?_
      refine pb_i2d C dX3_middleX_67 ?_
      refine pb_ldc2d C dX3_middleX_68 q2104 ?_
      refine pb_ddiv C dX3_middleX_71 (fp_ddiv (fp_i2d _) fp_two) ?_
      refine pb_aload_n C dX3_middleX_72 rfl (lv_at hl 0 rfl) ?_
      refine pb_iload_n C dX3_middleX_73 rfl (lv_at hl 1 rfl) ?_
      refine pb_go_x (bc' := 0) (bs' := 0) (pb_runV (rest := [.double (FP.ddiv (FP.i2d (iZ (((t : Nat) : Int)))) 4611686018427387904)]) C hG (met_X3_count l o (mI S 0 0) hM s hs hb) hO.r (ci := 2) rfl (lw_V q1803 q1805 qs27 q60 q1806) ⟨rfl, hdX3_count⟩ rfl hl.1 rfl (Nat.le_of_ble_eq_true rfl) ⟨(Nat.le_of_ble_eq_true rfl), (Nat.le_of_ble_eq_true rfl)⟩ dX3_middleX_74) (by omega) (by omega) ?_
      refine pb_i2d C dX3_middleX_77 ?_
      refine pb_ddiv C dX3_middleX_78 (fp_ddiv (fp_ddiv (fp_i2d _) fp_two) (fp_nz64 hcp (by omega))) ?_
      exact pb_dret C dX3_middleX_79 (⟨_, rfl, by rw [ht, show k = 24 from by omega]; rfl, hM, hF⟩)
    · refine pb_ic C dX3_middleX_20 ?_
      refine pb_istore C dX3_middleX_21 hl (by decide) rfl fun ls hl => ?_
      have hl : lv_has ls 5 [(4, .int (iZ (0))), (0, .ref (o)), (1, .int (iZ (((s : Nat) : Int)))), (2, .int (iZ (((t : Nat) : Int)))), (3, .int (iZ (((k : Nat) : Int))))] := hl
      exact pb_V.mono (by omega) (by omega) (L23 _ 0 t H rfl hG hM hF (by omega) (by omega) (by rw [ht]; rfl) ls (lv_sub hl [1, 2, 3, 4, 0] rfl))
  refine pb_aload_n C dX3_middleX_0 rfl (lv_at hl 0 rfl) ?_
  refine pb_iload_n C dX3_middleX_1 rfl (lv_at hl 1 rfl) ?_
  refine pb_go_i (bc' := 0) (bs' := 0) (pb_runV (rest := []) C hG (met_X3_hasCells l o S hM s hs hb hc) hO.r (ci := 2) rfl (lw_V q1997 q1999 qs42 q60 q2000) ⟨rfl, hdX3_hasCells⟩ rfl hl.1 rfl (Nat.le_of_ble_eq_true rfl) ⟨(Nat.le_of_ble_eq_true rfl), (Nat.le_of_ble_eq_true rfl)⟩ dX3_middleX_2) (by omega) (by omega) (fun z_ H_ hp_ => ?_)
  obtain ⟨rfl, hM, hF⟩ := hp_
  have hG := hG.kept (hF.z hz)
  have hO := hM.2.1
  refine pb_if_ne C dX3_middleX_5 (x := 1) (tgt := 10) (by decide) (by omega) (fun c5_ => ?_) (fun c5_ => ?_)
  · refine pb_ic C dX3_middleX_10 ?_
    refine pb_istore_n C dX3_middleX_11 rfl hl (by decide) rfl fun ls hl => ?_
    have hl : lv_has ls 5 [(2, .int (iZ (0))), (0, .ref (o)), (1, .int (iZ (((s : Nat) : Int))))] := hl
    refine pb_ic C dX3_middleX_12 ?_
    refine pb_istore_n C dX3_middleX_13 rfl hl (by decide) rfl fun ls hl => ?_
    have hl : lv_has ls 5 [(3, .int (iZ (0))), (2, .int (iZ (0))), (0, .ref (o)), (1, .int (iZ (((s : Nat) : Int))))] := hl
    exact pb_V.mono (by omega) (by omega) (L14 _ 0 0 H_ rfl hG hM hF (by omega) rfl ls (lv_sub hl [2, 3, 1, 0] rfl))
  · exact absurd c5_ (by decide)

set_option maxHeartbeats 1000000 in
theorem met_X3_middleX_1 {w : pb_W} (l : Launch) {H0 : Heap} (o : Nat) (S : mS) (hM : MW w H0 o S) (s : Int) (hsr : -2147483648 ≤ s ∧ s ≤ 2147483647) (hs : ¬ (0 ≤ s ∧ s ≤ 7)) : pb_M w l yX3_middleX cX3_middleX 5 (some .double) 6 (0) (0) [.ref (o), .int (iZ (s))] H0 (pb_qq (fun z H1 => z = .double FP.dconst0 ∧ MW w H1 o (mI S 0 1) ∧ mF o H0 H1)) := by
  refine pb_of (by decide +kernel) (Nat.le_of_ble_eq_true rfl) ?_
  intro p_ e_ s_ m_ ar_ bl_ me_ co_ ls C hh hG hl
  have hl : lv_has ls 5 [(0, .ref (o)), (1, .int (iZ (s)))] := hl
  have hM0 := hM; obtain ⟨hz, hO, hA1, hA2, hA3, hA4, hA5, hA6, hA7, hA8, hA9, hA10, hA11, hA12⟩ := hM0
  have hF : mF o H0 H0 := mF.rf
  refine pb_aload_n C dX3_middleX_0 rfl (lv_at hl 0 rfl) ?_
  refine pb_iload_n C dX3_middleX_1 rfl (lv_at hl 1 rfl) ?_
  refine pb_go_i (bc' := 0) (bs' := 0) (pb_runV (rest := []) C hG (met_X3_hasCells_1 l o S hM s hsr hs) hO.r (ci := 2) rfl (lw_V q1997 q1999 qs42 q60 q2000) ⟨rfl, hdX3_hasCells⟩ rfl hl.1 rfl (Nat.le_of_ble_eq_true rfl) ⟨(Nat.le_of_ble_eq_true rfl), (Nat.le_of_ble_eq_true rfl)⟩ dX3_middleX_2) (by omega) (by omega) (fun z_ H_ hp_ => ?_)
  obtain ⟨rfl, hM, hF⟩ := hp_
  refine pb_if_ne C dX3_middleX_5 (x := 0) (tgt := 10) (by decide) (by omega) (fun c5_ => ?_) (fun c5_ => ?_)
  · exact absurd c5_ (by decide)
  · refine pb_dc0 C dX3_middleX_8 ?_
    exact pb_dret C dX3_middleX_9 (⟨_, rfl, rfl, hM, hF⟩)

set_option maxHeartbeats 1000000 in
theorem met_X3_middleX_2 {w : pb_W} (l : Launch) {H0 : Heap} (o : Nat) (S : mS) (hM : MW w H0 o S) (s : Nat) (hs : s < 8) (hb : mok S) (hc : cnt (mg S s) = 0) : pb_M w l yX3_middleX cX3_middleX 5 (some .double) 6 (0) (0) [.ref (o), .int (iZ (((s : Nat) : Int)))] H0 (pb_qq (fun z H1 => z = .double FP.dconst0 ∧ MW w H1 o (mI S 0 2) ∧ mF o H0 H1)) := by
  refine pb_of (by decide +kernel) (Nat.le_of_ble_eq_true rfl) ?_
  intro p_ e_ s_ m_ ar_ bl_ me_ co_ ls C hh hG hl
  have hl : lv_has ls 5 [(0, .ref (o)), (1, .int (iZ (((s : Nat) : Int))))] := hl
  have hM0 := hM; obtain ⟨hz, hO, hA1, hA2, hA3, hA4, hA5, hA6, hA7, hA8, hA9, hA10, hA11, hA12⟩ := hM0
  have hF : mF o H0 H0 := mF.rf
  refine pb_aload_n C dX3_middleX_0 rfl (lv_at hl 0 rfl) ?_
  refine pb_iload_n C dX3_middleX_1 rfl (lv_at hl 1 rfl) ?_
  refine pb_go_i (bc' := 0) (bs' := 0) (pb_runV (rest := []) C hG (met_X3_hasCells_2 l o S hM s hs hb hc) hO.r (ci := 2) rfl (lw_V q1997 q1999 qs42 q60 q2000) ⟨rfl, hdX3_hasCells⟩ rfl hl.1 rfl (Nat.le_of_ble_eq_true rfl) ⟨(Nat.le_of_ble_eq_true rfl), (Nat.le_of_ble_eq_true rfl)⟩ dX3_middleX_2) (by omega) (by omega) (fun z_ H_ hp_ => ?_)
  obtain ⟨rfl, hM, hF⟩ := hp_
  refine pb_if_ne C dX3_middleX_5 (x := 0) (tgt := 10) (by decide) (by omega) (fun c5_ => ?_) (fun c5_ => ?_)
  · exact absurd c5_ (by decide)
  · refine pb_dc0 C dX3_middleX_8 ?_
    exact pb_dret C dX3_middleX_9 (⟨_, rfl, rfl, hM, hF⟩)

set_option maxHeartbeats 1000000 in
theorem met_X3_middleY {w : pb_W} (l : Launch) {H0 : Heap} (o : Nat) (S : mS) (hM : MW w H0 o S) (s : Nat) (hs : s < 8) (hb : mok S) (hc : cnt (mg S s) ≠ 0) : pb_M w l yX3_middleY cX3_middleY 4 (some .double) 6 (0) (0) [.ref (o), .int (iZ (((s : Nat) : Int)))] H0 (pb_qq (fun z H1 => z = .double (midV (midY (mg S s)) (cnt (mg S s))) ∧ MW w H1 o (mI S 0 0) ∧ mF o H0 H1)) := by
  refine pb_of (by decide +kernel) (Nat.le_of_ble_eq_true rfl) ?_
  intro p_ e_ s_ m_ ar_ bl_ me_ co_ ls C hh hG hl
  have hl : lv_has ls 4 [(0, .ref (o)), (1, .int (iZ (((s : Nat) : Int))))] := hl
  have hM0 := hM; obtain ⟨hz, hO, hA1, hA2, hA3, hA4, hA5, hA6, hA7, hA8, hA9, hA10, hA11, hA12⟩ := hM0
  have hF : mF o H0 H0 := mF.rf
  have L14 : ∀ (n_ : Nat) (k t : Nat) (H : Heap), 24 - k = n_ → (pb_G w s_ H) → (MW w H o (mI S 0 0)) → (mF o H0 H) → (k ≤ 24) → (t = sm (fun y => (2 * y + 1) * pop 32 (mg S s y)) k) → ∀ (ls : Array Slot), lv_has ls 4 [(0, .ref (o)), (1, .int (iZ (((s : Nat) : Int)))), (2, .int (iZ (((t : Nat) : Int)))), (3, .int (iZ (((k : Nat) : Int))))] → pb_V w.2.2.2 p_ l e_ (pb_rm 6 (0) (0)) s_ m_ ar_ bl_ me_ co_ H (0) (0) (pb_E w bl_ ar_ s_ (0) (0) (pb_qq (fun z H1 => z = .double (midV (midY (mg S s)) (cnt (mg S s))) ∧ MW w H1 o (mI S 0 0) ∧ mF o H0 H1))) (F0 m_ 14 ls []) := by
    intro n_
    induction n_ using Nat.strongRecOn with
    | _ n_ ih14 =>
    intro k t H hm_ hG hM hF hk ht ls hl
    have hM0 := hM; obtain ⟨hz, hO, hA1, hA2, hA3, hA4, hA5, hA6, hA7, hA8, hA9, hA10, hA11, hA12⟩ := hM0
    have hO : pb_O w H o 2 [.int (iZ ((0))), .int (iZ ((S.1 1))), .ref (o + 1), .ref (o + 2), .ref (o + 3), .ref (o + 4), .ref (o + 5), .ref (o + 6), .ref (o + 7), .ref (o + 8), .ref (o + 9), .ref (o + 10), .ref (o + 11), .ref (o + 12), .int (iZ ((S.1 2))), .int (iZ ((S.1 3)))] := hO
    have hA1 : pb_A w H (o + 1) 0 192 (pb_nf (S.2.1 0)) := hA1
    have hA2 : pb_A w H (o + 2) 0 24 (pb_nf (S.2.1 1)) := hA2
    have hA3 : pb_A w H (o + 3) 0 26 (pb_nf (S.2.1 2)) := hA3
    have hA4 : pb_A w H (o + 4) 0 26 (pb_nf (S.2.1 3)) := hA4
    have hA5 : pb_A w H (o + 5) 0 40 (pb_zf (S.2.2 0)) := hA5
    have hA6 : pb_A w H (o + 6) 0 40 (pb_zf (S.2.2 1)) := hA6
    have hA7 : pb_A w H (o + 7) 0 576 (pb_zf (S.2.2 2)) := hA7
    have hA8 : pb_A w H (o + 8) 0 1300 (pb_zf (S.2.2 3)) := hA8
    have hA9 : pb_A w H (o + 9) 0 1300 (pb_zf (S.2.2 4)) := hA9
    have hA10 : pb_A w H (o + 10) 0 400 (pb_zf (S.2.2 5)) := hA10
    have hA11 : pb_A w H (o + 11) 0 400 (pb_zf (S.2.2 6)) := hA11
    have hA12 : pb_A w H (o + 12) 0 625 (pb_nf (S.2.1 4)) := hA12
    refine pb_iload_n C dX3_middleY_14 rfl (lv_at hl 3 rfl) ?_
    refine pb_bip C dX3_middleY_15 (by decide) ?_
    refine pb_icmp_ge C dX3_middleY_17 (x := ((k : Nat) : Int)) (y := 24) (tgt := 44) (by decide) (by omega) (by omega) (fun c17_ => ?_) (fun c17_ => ?_)
    · have hcl : cnt (mg (mI S 0 0) s) ≤ 768 := cnt_le _
      have hcp : 0 < cnt (mg (mI S 0 0) s) := Nat.pos_of_ne_zero hc
      refine pb_iload_n C dX3_middleY_44 rfl (lv_at hl 2 rfl) ?_
      refine pb_i2d C dX3_middleY_45 ?_
      refine pb_ldc2d C dX3_middleY_46 q2104 ?_
      refine pb_ddiv C dX3_middleY_49 (fp_ddiv (fp_i2d _) fp_two) ?_
      refine pb_aload_n C dX3_middleY_50 rfl (lv_at hl 0 rfl) ?_
      refine pb_iload_n C dX3_middleY_51 rfl (lv_at hl 1 rfl) ?_
      refine pb_go_x (bc' := 0) (bs' := 0) (pb_runV (rest := [.double (FP.ddiv (FP.i2d (iZ (((t : Nat) : Int)))) 4611686018427387904)]) C hG (met_X3_count l o (mI S 0 0) hM s hs hb) hO.r (ci := 2) rfl (lw_V q1803 q1805 qs27 q60 q1806) ⟨rfl, hdX3_count⟩ rfl hl.1 rfl (Nat.le_of_ble_eq_true rfl) ⟨(Nat.le_of_ble_eq_true rfl), (Nat.le_of_ble_eq_true rfl)⟩ dX3_middleY_52) (by omega) (by omega) ?_
      refine pb_i2d C dX3_middleY_55 ?_
      refine pb_ddiv C dX3_middleY_56 (fp_ddiv (fp_ddiv (fp_i2d _) fp_two) (fp_nz64 hcp (by omega))) ?_
      exact pb_dret C dX3_middleY_57 (⟨_, rfl, by rw [ht, show k = 24 from by omega]; rfl, hM, hF⟩)
    · refine pb_iload_n C dX3_middleY_20 rfl (lv_at hl 2 rfl) ?_
      refine pb_ic C dX3_middleY_21 ?_
      refine pb_iload_n C dX3_middleY_22 rfl (lv_at hl 3 rfl) ?_
      refine pb_imul C dX3_middleY_23 ?_
      refine pb_ic C dX3_middleY_24 ?_
      refine pb_iadd C dX3_middleY_25 ?_
      refine pb_aload_n C dX3_middleY_26 rfl (lv_at hl 0 rfl) ?_
      refine pb_iload_n C dX3_middleY_27 rfl (lv_at hl 1 rfl) ?_
      refine pb_iload_n C dX3_middleY_28 rfl (lv_at hl 3 rfl) ?_
      refine pb_go_x (bc' := 0) (bs' := 0) (pb_runV (rest := [.int (iZ (((((2 * k) + 1) : Nat) : Int))), .int (iZ (((t : Nat) : Int)))]) C hG (met_X3_row l o (mI S 0 0) hM s (by omega) (((k : Nat) : Int)) (by omega)) hO.r (ci := 2) rfl (lw_V q1807 q1809 qs28 q60 q1810) ⟨rfl, hdX3_row⟩ rfl hl.1 rfl (Nat.le_of_ble_eq_true rfl) ⟨(Nat.le_of_ble_eq_true rfl), (Nat.le_of_ble_eq_true rfl)⟩ dX3_middleY_29) (by omega) (by omega) ?_
      refine pb_eq (g2 := F0 m_ 32 ls [.int (iZ (((((mg S s) k) : Nat) : Int))), .int (iZ (((((2 * k) + 1) : Nat) : Int))), .int (iZ (((t : Nat) : Int)))]) (congrArg (fun z9 => F0 m_ 32 ls [.int (iZ z9), .int (iZ (((((2 * k) + 1) : Nat) : Int))), .int (iZ (((t : Nat) : Int)))]) (show (((gr (mg (mI S 0 0) s) (((k : Nat) : Int))) : Nat) : Int) = ((((mg S s) k) : Nat) : Int) from congrArg (fun n : Nat => (n : Int)) (gr_nat (mg S s) k))) ?_
      refine pb_go_x (bc' := 0) (bs' := 0) (pb_runS (rest := [.int (iZ (((((2 * k) + 1) : Nat) : Int))), .int (iZ (((t : Nat) : Int)))]) C hG (met_X3_bits l ((mg S s k)) (Nat.lt_of_lt_of_le ((mg_ok hb hs).1 k) (by decide))) (lw_S q1811 q1812 q60 q1813) hdX3_bits rfl hl.1 rfl (Nat.le_of_ble_eq_true rfl) ⟨(Nat.le_of_ble_eq_true rfl), (Nat.le_of_ble_eq_true rfl)⟩ dX3_middleY_32) (by omega) (by omega) ?_
      refine pb_imul C dX3_middleY_35 ?_
      refine pb_iadd C dX3_middleY_36 ?_
      refine pb_istore_n C dX3_middleY_37 rfl hl (by decide) rfl fun ls hl => ?_
      have hl : lv_has ls 4 [(2, .int (iZ ((((t + (((2 * k) + 1) * (pop 32 ((mg S s k))))) : Nat) : Int)))), (0, .ref (o)), (1, .int (iZ (((s : Nat) : Int)))), (3, .int (iZ (((k : Nat) : Int))))] := hl
      refine pb_iinc C dX3_middleY_38 hl (j := 3) (x := (((k : Nat) : Int))) rfl (by decide) rfl fun ls hl => ?_
      have hl : lv_has ls 4 [(3, .int (iZ ((((k + 1) : Nat) : Int)))), (2, .int (iZ ((((t + (((2 * k) + 1) * (pop 32 ((mg S s k))))) : Nat) : Int)))), (0, .ref (o)), (1, .int (iZ (((s : Nat) : Int))))] := hl
      refine pb_goto C dX3_middleY_41 (tgt := 14) (by decide) ?_
      exact pb_V.mono (by omega) (by omega) (ih14 _ (by omega) (k + 1) (t + (((2 * k) + 1) * (pop 32 ((mg S s k))))) H rfl hG hM hF (by omega) (by rw [sm, ← ht]) ls (lv_sub hl [2, 3, 1, 0] rfl))
  refine pb_aload_n C dX3_middleY_0 rfl (lv_at hl 0 rfl) ?_
  refine pb_iload_n C dX3_middleY_1 rfl (lv_at hl 1 rfl) ?_
  refine pb_go_i (bc' := 0) (bs' := 0) (pb_runV (rest := []) C hG (met_X3_hasCells l o S hM s hs hb hc) hO.r (ci := 2) rfl (lw_V q1997 q1999 qs42 q60 q2000) ⟨rfl, hdX3_hasCells⟩ rfl hl.1 rfl (Nat.le_of_ble_eq_true rfl) ⟨(Nat.le_of_ble_eq_true rfl), (Nat.le_of_ble_eq_true rfl)⟩ dX3_middleY_2) (by omega) (by omega) (fun z_ H_ hp_ => ?_)
  obtain ⟨rfl, hM, hF⟩ := hp_
  have hG := hG.kept (hF.z hz)
  have hO := hM.2.1
  refine pb_if_ne C dX3_middleY_5 (x := 1) (tgt := 10) (by decide) (by omega) (fun c5_ => ?_) (fun c5_ => ?_)
  · refine pb_ic C dX3_middleY_10 ?_
    refine pb_istore_n C dX3_middleY_11 rfl hl (by decide) rfl fun ls hl => ?_
    have hl : lv_has ls 4 [(2, .int (iZ (0))), (0, .ref (o)), (1, .int (iZ (((s : Nat) : Int))))] := hl
    refine pb_ic C dX3_middleY_12 ?_
    refine pb_istore_n C dX3_middleY_13 rfl hl (by decide) rfl fun ls hl => ?_
    have hl : lv_has ls 4 [(3, .int (iZ (0))), (2, .int (iZ (0))), (0, .ref (o)), (1, .int (iZ (((s : Nat) : Int))))] := hl
    exact pb_V.mono (by omega) (by omega) (L14 _ 0 0 H_ rfl hG hM hF (by omega) rfl ls (lv_sub hl [2, 3, 1, 0] rfl))
  · exact absurd c5_ (by decide)

set_option maxHeartbeats 1000000 in
theorem met_X3_middleY_1 {w : pb_W} (l : Launch) {H0 : Heap} (o : Nat) (S : mS) (hM : MW w H0 o S) (s : Int) (hsr : -2147483648 ≤ s ∧ s ≤ 2147483647) (hs : ¬ (0 ≤ s ∧ s ≤ 7)) : pb_M w l yX3_middleY cX3_middleY 4 (some .double) 6 (0) (0) [.ref (o), .int (iZ (s))] H0 (pb_qq (fun z H1 => z = .double FP.dconst0 ∧ MW w H1 o (mI S 0 1) ∧ mF o H0 H1)) := by
  refine pb_of (by decide +kernel) (Nat.le_of_ble_eq_true rfl) ?_
  intro p_ e_ s_ m_ ar_ bl_ me_ co_ ls C hh hG hl
  have hl : lv_has ls 4 [(0, .ref (o)), (1, .int (iZ (s)))] := hl
  have hM0 := hM; obtain ⟨hz, hO, hA1, hA2, hA3, hA4, hA5, hA6, hA7, hA8, hA9, hA10, hA11, hA12⟩ := hM0
  have hF : mF o H0 H0 := mF.rf
  refine pb_aload_n C dX3_middleY_0 rfl (lv_at hl 0 rfl) ?_
  refine pb_iload_n C dX3_middleY_1 rfl (lv_at hl 1 rfl) ?_
  refine pb_go_i (bc' := 0) (bs' := 0) (pb_runV (rest := []) C hG (met_X3_hasCells_1 l o S hM s hsr hs) hO.r (ci := 2) rfl (lw_V q1997 q1999 qs42 q60 q2000) ⟨rfl, hdX3_hasCells⟩ rfl hl.1 rfl (Nat.le_of_ble_eq_true rfl) ⟨(Nat.le_of_ble_eq_true rfl), (Nat.le_of_ble_eq_true rfl)⟩ dX3_middleY_2) (by omega) (by omega) (fun z_ H_ hp_ => ?_)
  obtain ⟨rfl, hM, hF⟩ := hp_
  refine pb_if_ne C dX3_middleY_5 (x := 0) (tgt := 10) (by decide) (by omega) (fun c5_ => ?_) (fun c5_ => ?_)
  · exact absurd c5_ (by decide)
  · refine pb_dc0 C dX3_middleY_8 ?_
    exact pb_dret C dX3_middleY_9 (⟨_, rfl, rfl, hM, hF⟩)

set_option maxHeartbeats 1000000 in
theorem met_X3_middleY_2 {w : pb_W} (l : Launch) {H0 : Heap} (o : Nat) (S : mS) (hM : MW w H0 o S) (s : Nat) (hs : s < 8) (hb : mok S) (hc : cnt (mg S s) = 0) : pb_M w l yX3_middleY cX3_middleY 4 (some .double) 6 (0) (0) [.ref (o), .int (iZ (((s : Nat) : Int)))] H0 (pb_qq (fun z H1 => z = .double FP.dconst0 ∧ MW w H1 o (mI S 0 2) ∧ mF o H0 H1)) := by
  refine pb_of (by decide +kernel) (Nat.le_of_ble_eq_true rfl) ?_
  intro p_ e_ s_ m_ ar_ bl_ me_ co_ ls C hh hG hl
  have hl : lv_has ls 4 [(0, .ref (o)), (1, .int (iZ (((s : Nat) : Int))))] := hl
  have hM0 := hM; obtain ⟨hz, hO, hA1, hA2, hA3, hA4, hA5, hA6, hA7, hA8, hA9, hA10, hA11, hA12⟩ := hM0
  have hF : mF o H0 H0 := mF.rf
  refine pb_aload_n C dX3_middleY_0 rfl (lv_at hl 0 rfl) ?_
  refine pb_iload_n C dX3_middleY_1 rfl (lv_at hl 1 rfl) ?_
  refine pb_go_i (bc' := 0) (bs' := 0) (pb_runV (rest := []) C hG (met_X3_hasCells_2 l o S hM s hs hb hc) hO.r (ci := 2) rfl (lw_V q1997 q1999 qs42 q60 q2000) ⟨rfl, hdX3_hasCells⟩ rfl hl.1 rfl (Nat.le_of_ble_eq_true rfl) ⟨(Nat.le_of_ble_eq_true rfl), (Nat.le_of_ble_eq_true rfl)⟩ dX3_middleY_2) (by omega) (by omega) (fun z_ H_ hp_ => ?_)
  obtain ⟨rfl, hM, hF⟩ := hp_
  refine pb_if_ne C dX3_middleY_5 (x := 0) (tgt := 10) (by decide) (by omega) (fun c5_ => ?_) (fun c5_ => ?_)
  · exact absurd c5_ (by decide)
  · refine pb_dc0 C dX3_middleY_8 ?_
    exact pb_dret C dX3_middleY_9 (⟨_, rfl, rfl, hM, hF⟩)

set_option maxHeartbeats 1000000 in
theorem met_X3_fullness {w : pb_W} (l : Launch) {H0 : Heap} (o : Nat) (S : mS) (hM : MW w H0 o S) (s : Nat) (hs : s < 8) (hb : mok S) (hc : cnt (mg S s) ≠ 0) : pb_M w l yX3_fullness cX3_fullness 3 (some .float) 7 (0) (0) [.ref (o), .int (iZ (((s : Nat) : Int)))] H0 (pb_qq (fun z H1 => (∃ xl xr xb xt, boxP (mg S s) xl xr xb xt ∧ z = .float (fulV (cnt (mg S s)) ((xr - xl) * (xt - xb)))) ∧ MW w H1 o (mI S 0 0) ∧ mF o H0 H1)) := by
  refine pb_of (by decide +kernel) (Nat.le_of_ble_eq_true rfl) ?_
  intro p_ e_ s_ m_ ar_ bl_ me_ co_ ls C hh hG hl
  have hl : lv_has ls 3 [(0, .ref (o)), (1, .int (iZ (((s : Nat) : Int))))] := hl
  have hM0 := hM; obtain ⟨hz, hO, hA1, hA2, hA3, hA4, hA5, hA6, hA7, hA8, hA9, hA10, hA11, hA12⟩ := hM0
  have hF : mF o H0 H0 := mF.rf
  refine pb_aload_n C dX3_fullness_0 rfl (lv_at hl 0 rfl) ?_
  refine pb_iload_n C dX3_fullness_1 rfl (lv_at hl 1 rfl) ?_
  refine pb_go_i (bc' := 0) (bs' := 0) (pb_runV (rest := []) C hG (met_X3_hasCells l o S hM s hs hb hc) hO.r (ci := 2) rfl (lw_V q1997 q1999 qs42 q60 q2000) ⟨rfl, hdX3_hasCells⟩ rfl hl.1 rfl (Nat.le_of_ble_eq_true rfl) ⟨(Nat.le_of_ble_eq_true rfl), (Nat.le_of_ble_eq_true rfl)⟩ dX3_fullness_2) (by omega) (by omega) (fun z_ H_ hp_ => ?_)
  obtain ⟨rfl, hM, hF⟩ := hp_
  have hG := hG.kept (hF.z hz)
  have hO := hM.2.1
  refine pb_if_ne C dX3_fullness_5 (x := 1) (tgt := 10) (by decide) (by omega) (fun c5_ => ?_) (fun c5_ => ?_)
  · refine pb_aload_n C dX3_fullness_10 rfl (lv_at hl 0 rfl) ?_
    refine pb_iload_n C dX3_fullness_11 rfl (lv_at hl 1 rfl) ?_
    refine pb_go_i (bc' := 0) (bs' := 0) (pb_runV (rest := []) C hG (met_X3_right l o (mI S 0 0) hM s hs hb hc) hO.r (ci := 2) rfl (lw_V q2113 q2006 q2007 q60 q2008) ⟨rfl, hdX3_right⟩ rfl hl.1 rfl (Nat.le_of_ble_eq_true rfl) ⟨(Nat.le_of_ble_eq_true rfl), (Nat.le_of_ble_eq_true rfl)⟩ dX3_fullness_12) (by omega) (by omega) (fun z_ H_ hp_ => ?_)
    obtain ⟨⟨xr, rfl, hxr⟩, hM, hF2⟩ := hp_
    rw [mI_00] at hM
    have hG := hG.kept (hF2.z hz)
    have hF := hF.tr hF2
    have hO := hM.2.1
    refine pb_aload_n C dX3_fullness_15 rfl (lv_at hl 0 rfl) ?_
    refine pb_iload_n C dX3_fullness_16 rfl (lv_at hl 1 rfl) ?_
    refine pb_go_i (bc' := 0) (bs' := 0) (pb_runV (rest := [.int (iZ (((xr : Nat) : Int)))]) C hG (met_X3_left l o (mI S 0 0) hM s hs hb hc) hO.r (ci := 2) rfl (lw_V q2114 q1994 q1995 q60 q1996) ⟨rfl, hdX3_left⟩ rfl hl.1 rfl (Nat.le_of_ble_eq_true rfl) ⟨(Nat.le_of_ble_eq_true rfl), (Nat.le_of_ble_eq_true rfl)⟩ dX3_fullness_17) (by omega) (by omega) (fun z_ H_ hp_ => ?_)
    obtain ⟨⟨xl, rfl, hxl⟩, hM, hF2⟩ := hp_
    rw [mI_00] at hM
    have hG := hG.kept (hF2.z hz)
    have hF := hF.tr hF2
    have hO := hM.2.1
    refine pb_isub C dX3_fullness_20 ?_
    refine pb_aload_n C dX3_fullness_21 rfl (lv_at hl 0 rfl) ?_
    refine pb_iload_n C dX3_fullness_22 rfl (lv_at hl 1 rfl) ?_
    refine pb_go_i (bc' := 0) (bs' := 0) (pb_runV (rest := [.int (iZ ((((xr : Nat) : Int) - ((xl : Nat) : Int))))]) C hG (met_X3_top l o (mI S 0 0) hM s hs hb hc) hO.r (ci := 2) rfl (lw_V q2115 q2014 q2015 q60 q2016) ⟨rfl, hdX3_top⟩ rfl hl.1 rfl (Nat.le_of_ble_eq_true rfl) ⟨(Nat.le_of_ble_eq_true rfl), (Nat.le_of_ble_eq_true rfl)⟩ dX3_fullness_23) (by omega) (by omega) (fun z_ H_ hp_ => ?_)
    obtain ⟨⟨xt, rfl, hxt⟩, hM, hF2⟩ := hp_
    rw [mI_00] at hM
    have hG := hG.kept (hF2.z hz)
    have hF := hF.tr hF2
    have hO := hM.2.1
    refine pb_aload_n C dX3_fullness_26 rfl (lv_at hl 0 rfl) ?_
    refine pb_iload_n C dX3_fullness_27 rfl (lv_at hl 1 rfl) ?_
    refine pb_go_i (bc' := 0) (bs' := 0) (pb_runV (rest := [.int (iZ (((xt : Nat) : Int))), .int (iZ ((((xr : Nat) : Int) - ((xl : Nat) : Int))))]) C hG (met_X3_bottom l o (mI S 0 0) hM s hs hb hc) hO.r (ci := 2) rfl (lw_V q2116 q2010 q2011 q60 q2012) ⟨rfl, hdX3_bottom⟩ rfl hl.1 rfl (Nat.le_of_ble_eq_true rfl) ⟨(Nat.le_of_ble_eq_true rfl), (Nat.le_of_ble_eq_true rfl)⟩ dX3_fullness_28) (by omega) (by omega) (fun z_ H_ hp_ => ?_)
    obtain ⟨⟨xb, rfl, hxb⟩, hM, hF2⟩ := hp_
    rw [mI_00] at hM
    have hG := hG.kept (hF2.z hz)
    have hF := hF.tr hF2
    have hO := hM.2.1
    have hbox : boxP (mg S s) xl xr xb xt := ⟨hxl, hxr, hxb, hxt⟩
    have hbl := box_lt hbox
    refine pb_isub C dX3_fullness_31 ?_
    refine pb_imul C dX3_fullness_32 ?_
    refine pb_eq (g2 := F0 m_ 33 ls [.int (iZ (((((xr - xl) * (xt - xb)) : Nat) : Int)))]) (congrArg (fun z9 => F0 m_ 33 ls [.int (iZ z9)]) (show ((((xr : Nat) : Int) - ((xl : Nat) : Int)) * (((xt : Nat) : Int) - ((xb : Nat) : Int))) = ((((xr - xl) * (xt - xb)) : Nat) : Int) from box_cast (by omega) (by omega))) ?_
    refine pb_istore_n C dX3_fullness_33 rfl hl (by decide) rfl fun ls hl => ?_
    have hl : lv_has ls 3 [(2, .int (iZ (((((xr - xl) * (xt - xb)) : Nat) : Int)))), (0, .ref (o)), (1, .int (iZ (((s : Nat) : Int))))] := hl
    refine pb_aload_n C dX3_fullness_34 rfl (lv_at hl 1 rfl) ?_
    refine pb_iload_n C dX3_fullness_35 rfl (lv_at hl 2 rfl) ?_
    refine pb_go_x (bc' := 0) (bs' := 0) (pb_runV (rest := []) C hG (met_X3_count l o (mI S 0 0) hM s hs hb) hO.r (ci := 2) rfl (lw_V q1803 q1805 qs27 q60 q1806) ⟨rfl, hdX3_count⟩ rfl hl.1 rfl (Nat.le_of_ble_eq_true rfl) ⟨(Nat.le_of_ble_eq_true rfl), (Nat.le_of_ble_eq_true rfl)⟩ dX3_fullness_36) (by omega) (by omega) ?_
    refine pb_i2f C dX3_fullness_39 ?_
    refine pb_iload_n C dX3_fullness_40 rfl (lv_at hl 0 rfl) ?_
    refine pb_i2f C dX3_fullness_41 ?_
    have hbx : 0 < (xr - xl) * (xt - xb) := Nat.mul_pos (by omega) (by omega)
    have hbx2 : (xr - xl) * (xt - xb) ≤ 24 * 24 := Nat.mul_le_mul (by omega) (by omega)
    refine pb_fdiv C dX3_fullness_42 (fp_fdiv (fp_i2f _) (fp_nz32 hbx (by omega))) ?_
    exact pb_fret C dX3_fullness_43 (⟨_, rfl, ⟨xl, xr, xb, xt, hbox, rfl⟩, hM, hF⟩)
  · exact absurd c5_ (by decide)

set_option maxHeartbeats 1000000 in
theorem met_X3_fullness_1 {w : pb_W} (l : Launch) {H0 : Heap} (o : Nat) (S : mS) (hM : MW w H0 o S) (s : Int) (hsr : -2147483648 ≤ s ∧ s ≤ 2147483647) (hs : ¬ (0 ≤ s ∧ s ≤ 7)) : pb_M w l yX3_fullness cX3_fullness 3 (some .float) 7 (0) (0) [.ref (o), .int (iZ (s))] H0 (pb_qq (fun z H1 => z = .float FP.fconst0 ∧ MW w H1 o (mI S 0 1) ∧ mF o H0 H1)) := by
  refine pb_of (by decide +kernel) (Nat.le_of_ble_eq_true rfl) ?_
  intro p_ e_ s_ m_ ar_ bl_ me_ co_ ls C hh hG hl
  have hl : lv_has ls 3 [(0, .ref (o)), (1, .int (iZ (s)))] := hl
  have hM0 := hM; obtain ⟨hz, hO, hA1, hA2, hA3, hA4, hA5, hA6, hA7, hA8, hA9, hA10, hA11, hA12⟩ := hM0
  have hF : mF o H0 H0 := mF.rf
  refine pb_aload_n C dX3_fullness_0 rfl (lv_at hl 0 rfl) ?_
  refine pb_iload_n C dX3_fullness_1 rfl (lv_at hl 1 rfl) ?_
  refine pb_go_i (bc' := 0) (bs' := 0) (pb_runV (rest := []) C hG (met_X3_hasCells_1 l o S hM s hsr hs) hO.r (ci := 2) rfl (lw_V q1997 q1999 qs42 q60 q2000) ⟨rfl, hdX3_hasCells⟩ rfl hl.1 rfl (Nat.le_of_ble_eq_true rfl) ⟨(Nat.le_of_ble_eq_true rfl), (Nat.le_of_ble_eq_true rfl)⟩ dX3_fullness_2) (by omega) (by omega) (fun z_ H_ hp_ => ?_)
  obtain ⟨rfl, hM, hF⟩ := hp_
  refine pb_if_ne C dX3_fullness_5 (x := 0) (tgt := 10) (by decide) (by omega) (fun c5_ => ?_) (fun c5_ => ?_)
  · exact absurd c5_ (by decide)
  · refine pb_fc0 C dX3_fullness_8 ?_
    exact pb_fret C dX3_fullness_9 (⟨_, rfl, rfl, hM, hF⟩)

set_option maxHeartbeats 1000000 in
theorem met_X3_fullness_2 {w : pb_W} (l : Launch) {H0 : Heap} (o : Nat) (S : mS) (hM : MW w H0 o S) (s : Nat) (hs : s < 8) (hb : mok S) (hc : cnt (mg S s) = 0) : pb_M w l yX3_fullness cX3_fullness 3 (some .float) 7 (0) (0) [.ref (o), .int (iZ (((s : Nat) : Int)))] H0 (pb_qq (fun z H1 => z = .float FP.fconst0 ∧ MW w H1 o (mI S 0 2) ∧ mF o H0 H1)) := by
  refine pb_of (by decide +kernel) (Nat.le_of_ble_eq_true rfl) ?_
  intro p_ e_ s_ m_ ar_ bl_ me_ co_ ls C hh hG hl
  have hl : lv_has ls 3 [(0, .ref (o)), (1, .int (iZ (((s : Nat) : Int))))] := hl
  have hM0 := hM; obtain ⟨hz, hO, hA1, hA2, hA3, hA4, hA5, hA6, hA7, hA8, hA9, hA10, hA11, hA12⟩ := hM0
  have hF : mF o H0 H0 := mF.rf
  refine pb_aload_n C dX3_fullness_0 rfl (lv_at hl 0 rfl) ?_
  refine pb_iload_n C dX3_fullness_1 rfl (lv_at hl 1 rfl) ?_
  refine pb_go_i (bc' := 0) (bs' := 0) (pb_runV (rest := []) C hG (met_X3_hasCells_2 l o S hM s hs hb hc) hO.r (ci := 2) rfl (lw_V q1997 q1999 qs42 q60 q2000) ⟨rfl, hdX3_hasCells⟩ rfl hl.1 rfl (Nat.le_of_ble_eq_true rfl) ⟨(Nat.le_of_ble_eq_true rfl), (Nat.le_of_ble_eq_true rfl)⟩ dX3_fullness_2) (by omega) (by omega) (fun z_ H_ hp_ => ?_)
  obtain ⟨rfl, hM, hF⟩ := hp_
  refine pb_if_ne C dX3_fullness_5 (x := 0) (tgt := 10) (by decide) (by omega) (fun c5_ => ?_) (fun c5_ => ?_)
  · exact absurd c5_ (by decide)
  · refine pb_fc0 C dX3_fullness_8 ?_
    exact pb_fret C dX3_fullness_9 (⟨_, rfl, rfl, hM, hF⟩)

