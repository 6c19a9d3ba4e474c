set_option maxRecDepth 100000
set_option maxHeartbeats 1000000 in
theorem met_X18_keeps {w : pb_W} (l : Launch) {H : Heap} (o : Nat) (x y : Bool) : pb_MN w l yX18_keeps cX18_keeps 3 (some .boolean) 0 (0) (0) [.ref (o), .int (iZ ((bI (x)))), .int (iZ ((bI (y))))] H (pb_qx (.int (iZ (bI (opk 0 x y)))) H) := by
  refine pb_ofN (by decide +kernel) (Nat.le_of_ble_eq_true rfl) ?_
  intro p_ e_ s_ m_ ar_ bl_ me_ co_ ls C hh hG hl
  have hl : lv_has ls 3 [(0, .ref (o)), (1, .int (iZ ((bI (x))))), (2, .int (iZ ((bI (y)))))] := hl
  refine pb_iload_n C dX18_keeps_0 rfl (lv_at hl 1 rfl) ?_
  refine pb_ifB_ne C dX18_keeps_1 (tgt := 8) (by decide) (fun c1_ => ?_) (fun c1_ => ?_)
  · refine pb_ic C dX18_keeps_8 ?_
    refine pb_goto C dX18_keeps_9 (tgt := 13) (by decide) ?_
    exact pb_zret C dX18_keeps_13 (by decide +kernel) (⟨by rw [show opk 0 x y = true from by simp only [opk]; simp [c1_]]; rfl, rfl⟩)
  · refine pb_iload_n C dX18_keeps_4 rfl (lv_at hl 2 rfl) ?_
    refine pb_ifB_eq C dX18_keeps_5 (tgt := 12) (by decide) (fun c5_ => ?_) (fun c5_ => ?_)
    · refine pb_ic C dX18_keeps_12 ?_
      exact pb_zret C dX18_keeps_13 (by decide +kernel) (⟨by rw [show opk 0 x y = false from by simp only [opk]; simp [c1_, c5_]]; rfl, rfl⟩)
    · refine pb_ic C dX18_keeps_8 ?_
      refine pb_goto C dX18_keeps_9 (tgt := 13) (by decide) ?_
      exact pb_zret C dX18_keeps_13 (by decide +kernel) (⟨by rw [show opk 0 x y = true from by simp only [opk]; simp [c1_, c5_]]; rfl, rfl⟩)

set_option maxHeartbeats 1000000 in
theorem met_X19_keeps {w : pb_W} (l : Launch) {H : Heap} (o : Nat) (x y : Bool) : pb_MN w l yX19_keeps cX19_keeps 3 (some .boolean) 0 (0) (0) [.ref (o), .int (iZ ((bI (x)))), .int (iZ ((bI (y))))] H (pb_qx (.int (iZ (bI (opk 1 x y)))) H) := by
  refine pb_ofN (by decide +kernel) (Nat.le_of_ble_eq_true rfl) ?_
  intro p_ e_ s_ m_ ar_ bl_ me_ co_ ls C hh hG hl
  have hl : lv_has ls 3 [(0, .ref (o)), (1, .int (iZ ((bI (x))))), (2, .int (iZ ((bI (y)))))] := hl
  refine pb_iload_n C dX19_keeps_0 rfl (lv_at hl 1 rfl) ?_
  refine pb_ifB_eq C dX19_keeps_1 (tgt := 12) (by decide) (fun c1_ => ?_) (fun c1_ => ?_)
  · refine pb_ic C dX19_keeps_12 ?_
    exact pb_zret C dX19_keeps_13 (by decide +kernel) (⟨by rw [show opk 1 x y = false from by simp only [opk]; simp [c1_]]; rfl, rfl⟩)
  · refine pb_iload_n C dX19_keeps_4 rfl (lv_at hl 2 rfl) ?_
    refine pb_ifB_eq C dX19_keeps_5 (tgt := 12) (by decide) (fun c5_ => ?_) (fun c5_ => ?_)
    · refine pb_ic C dX19_keeps_12 ?_
      exact pb_zret C dX19_keeps_13 (by decide +kernel) (⟨by rw [show opk 1 x y = false from by simp only [opk]; simp [c1_, c5_]]; rfl, rfl⟩)
    · refine pb_ic C dX19_keeps_8 ?_
      refine pb_goto C dX19_keeps_9 (tgt := 13) (by decide) ?_
      exact pb_zret C dX19_keeps_13 (by decide +kernel) (⟨by rw [show opk 1 x y = true from by simp only [opk]; simp [c1_, c5_]]; rfl, rfl⟩)

set_option maxHeartbeats 1000000 in
theorem met_X20_keeps {w : pb_W} (l : Launch) {H : Heap} (o : Nat) (x y : Bool) : pb_MN w l yX20_keeps cX20_keeps 3 (some .boolean) 0 (0) (0) [.ref (o), .int (iZ ((bI (x)))), .int (iZ ((bI (y))))] H (pb_qx (.int (iZ (bI (opk 2 x y)))) H) := by
  refine pb_ofN (by decide +kernel) (Nat.le_of_ble_eq_true rfl) ?_
  intro p_ e_ s_ m_ ar_ bl_ me_ co_ ls C hh hG hl
  have hl : lv_has ls 3 [(0, .ref (o)), (1, .int (iZ ((bI (x))))), (2, .int (iZ ((bI (y)))))] := hl
  refine pb_iload_n C dX20_keeps_0 rfl (lv_at hl 1 rfl) ?_
  refine pb_ifB_eq C dX20_keeps_1 (tgt := 12) (by decide) (fun c1_ => ?_) (fun c1_ => ?_)
  · refine pb_ic C dX20_keeps_12 ?_
    exact pb_zret C dX20_keeps_13 (by decide +kernel) (⟨by rw [show opk 2 x y = false from by simp only [opk]; simp [c1_]]; rfl, rfl⟩)
  · refine pb_iload_n C dX20_keeps_4 rfl (lv_at hl 2 rfl) ?_
    refine pb_ifB_ne C dX20_keeps_5 (tgt := 12) (by decide) (fun c5_ => ?_) (fun c5_ => ?_)
    · refine pb_ic C dX20_keeps_12 ?_
      exact pb_zret C dX20_keeps_13 (by decide +kernel) (⟨by rw [show opk 2 x y = false from by simp only [opk]; simp [c1_, c5_]]; rfl, rfl⟩)
    · refine pb_ic C dX20_keeps_8 ?_
      refine pb_goto C dX20_keeps_9 (tgt := 13) (by decide) ?_
      exact pb_zret C dX20_keeps_13 (by decide +kernel) (⟨by rw [show opk 2 x y = true from by simp only [opk]; simp [c1_, c5_]]; rfl, rfl⟩)

set_option maxHeartbeats 1000000 in
theorem met_X21_keeps {w : pb_W} (l : Launch) {H : Heap} (o : Nat) (x y : Bool) : pb_MN w l yX21_keeps cX21_keeps 3 (some .boolean) 0 (0) (0) [.ref (o), .int (iZ ((bI (x)))), .int (iZ ((bI (y))))] H (pb_qx (.int (iZ (bI (opk 3 x y)))) H) := by
  refine pb_ofN (by decide +kernel) (Nat.le_of_ble_eq_true rfl) ?_
  intro p_ e_ s_ m_ ar_ bl_ me_ co_ ls C hh hG hl
  have hl : lv_has ls 3 [(0, .ref (o)), (1, .int (iZ ((bI (x))))), (2, .int (iZ ((bI (y)))))] := hl
  refine pb_iload_n C dX21_keeps_0 rfl (lv_at hl 1 rfl) ?_
  refine pb_iload_n C dX21_keeps_1 rfl (lv_at hl 2 rfl) ?_
  refine pb_icmp_eq C dX21_keeps_2 (x := (bI (x))) (y := (bI (y))) (tgt := 9) (by decide) (by cases x <;> decide) (by cases y <;> decide) (fun c2_ => ?_) (fun c2_ => ?_)
  · refine pb_ic C dX21_keeps_9 ?_
    exact pb_zret C dX21_keeps_10 (by decide +kernel) (⟨by rw [show opk 3 x y = false from by cases x <;> cases y <;> first | rfl | exact absurd c2_ (by decide) | exact absurd rfl c2_]; rfl, rfl⟩)
  · refine pb_ic C dX21_keeps_5 ?_
    refine pb_goto C dX21_keeps_6 (tgt := 10) (by decide) ?_
    exact pb_zret C dX21_keeps_10 (by decide +kernel) (⟨by rw [show opk 3 x y = true from by cases x <;> cases y <;> first | rfl | exact absurd c2_ (by decide) | exact absurd rfl c2_]; rfl, rfl⟩)

set_option maxHeartbeats 1000000 in
theorem met_X5_init {w : pb_W} (l : Launch) {H0 : Heap} (c s : Nat) (lo_ hi_ : Int) (hz : w.2.2.2 ≤ c) (hO : pb_O w H0 c 4 [.int (iZ (0)), .null, .int (iZ (0))]) : pb_M w l yX5_init cX5_init 4 none 1 (0) (0) [.ref (c), .int (iZ (lo_)), .int (iZ (hi_)), .ref (s)] H0 (pb_qv (fun H1 => pb_O w H1 c 4 [.int (iZ (lo_)), .ref (s), .int (iZ (hi_))] ∧ pb_F (fun q => q ≠ c) H0 H1)) := by
  refine pb_of (by decide +kernel) (Nat.le_of_ble_eq_true rfl) ?_
  intro p_ e_ s_ m_ ar_ bl_ me_ co_ ls C hh hG hl
  have hl : lv_has ls 4 [(0, .ref (c)), (1, .int (iZ (lo_))), (2, .int (iZ (hi_))), (3, .ref (s))] := hl
  have hFF : pb_F (fun q => q ≠ c) H0 H0 := pb_F.rf
  refine pb_aload_n C dX5_init_0 rfl (lv_at hl 0 rfl) ?_
  refine pb_objInit C q460 q99 q100 hl.1 ⟨(Nat.le_of_ble_eq_true rfl), (Nat.le_of_ble_eq_true rfl)⟩ dX5_init_1 ?_
  refine pb_aload_n C dX5_init_4 rfl (lv_at hl 0 rfl) ?_
  refine pb_iload_n C dX5_init_5 rfl (lv_at hl 1 rfl) ?_
  refine pb_putF C in_X5 tyX5 tyX5_ok nmX5 hO (ci := 4) rfl 0 (by decide) q461 (fun _ h9 => h9) rfl rfl rfl (v := .int (iZ (lo_))) rfl rfl (Nat.le_of_ble_eq_true rfl) (by omega) dX5_init_6 fun H1_ hu_ hO => ?_
  have hO : pb_O w H1_ (c) 4 [.int (iZ (lo_)), .null, .int (iZ (0))] := hO
  have hG := hG.kept (hu_.z (by omega))
  have hs_H1_ := hu_.1
  have hFF := hFF.tr hu_.f
  refine pb_aload_n C dX5_init_9 rfl (lv_at hl 0 rfl) ?_
  refine pb_iload_n C dX5_init_10 rfl (lv_at hl 2 rfl) ?_
  refine pb_put C in_X5 tyX5 tyX5_ok nmX5 hO (ci := 4) rfl 2 (by decide) q469 (fun _ h9 => h9) rfl (v := .int (iZ (hi_))) rfl rfl (Nat.le_of_ble_eq_true rfl) (by omega) dX5_init_11 fun H2_ hu_ hO => ?_
  have hO : pb_O w H2_ (c) 4 [.int (iZ (lo_)), .null, .int (iZ (hi_))] := hO
  have hG := hG.kept (hu_.z (by omega))
  have hs_H2_ := hu_.1
  have hFF := hFF.tr hu_.f
  refine pb_aload_n C dX5_init_14 rfl (lv_at hl 0 rfl) ?_
  refine pb_aload_n C dX5_init_15 rfl (lv_at hl 3 rfl) ?_
  refine pb_putF C in_X5 tyX5 tyX5_ok nmX5 hO (ci := 4) rfl 1 (by decide) q465 (fun _ h9 => h9) rfl rfl rfl (v := .ref (s)) rfl rfl (Nat.le_of_ble_eq_true rfl) (by omega) dX5_init_16 fun H3_ hu_ hO => ?_
  have hO : pb_O w H3_ (c) 4 [.int (iZ (lo_)), .ref (s), .int (iZ (hi_))] := hO
  have hG := hG.kept (hu_.z (by omega))
  have hs_H3_ := hu_.1
  have hFF := hFF.tr hu_.f
  exact pb_vret C dX5_init_19 (⟨rfl, hO, hFF⟩)

set_option maxHeartbeats 1000000 in
theorem met_X5_height {w : pb_W} (l : Launch) {H : Heap} (c s : Nat) (lo_ hi_ : Int) (hO : pb_R w H c 4 [.int (iZ (lo_)), .ref (s), .int (iZ (hi_))]) : pb_M w l yX5_height cX5_height 1 (some .int) 0 (0) (0) [.ref (c)] H (pb_qx (.int (iZ (hi_ - lo_))) H) := by
  refine pb_of (by decide +kernel) (Nat.le_of_ble_eq_true rfl) ?_
  intro p_ e_ s_ m_ ar_ bl_ me_ co_ ls C hh hG hl
  have hl : lv_has ls 1 [(0, .ref (c))] := hl
  refine pb_aload_n C dX5_height_0 rfl (lv_at hl 0 rfl) ?_
  refine pb_get C in_X5 hO (ci := 4) rfl 2 (by decide) q469 (fun _ h9 => h9) (v := .int (iZ (hi_))) rfl dX5_height_1 ?_
  refine pb_aload_n C dX5_height_4 rfl (lv_at hl 0 rfl) ?_
  refine pb_get C in_X5 hO (ci := 4) rfl 0 (by decide) q461 (fun _ h9 => h9) (v := .int (iZ (lo_))) rfl dX5_height_5 ?_
  refine pb_isub C dX5_height_8 ?_
  exact pb_iret C dX5_height_9 (⟨rfl, rfl⟩)

-- band fields: low, spans, high
