set_option maxRecDepth 100000
set_option maxHeartbeats 1000000 in
theorem met_J19_valueOf_s {w : pb_W} (l : Launch) {H : Heap} (x : Nat) (hx : x < 128) : pb_M w l yJ19_valueOf cJ19_valueOf 1 (some (.object "java/lang/Integer")) 1 (0) (0) [.int (iZ (((x : Nat) : Int)))] H (pb_qx (.ref (cB w x)) H) := by
  refine pb_of (by decide +kernel) (Nat.le_of_ble_eq_true rfl) ?_
  intro p_ e_ s_ m_ ar_ bl_ me_ co_ ls C hh hG hl
  have hl : lv_has ls 1 [(0, .int (iZ (((x : Nat) : Int))))] := hl
  refine pb_iload_n C dJ19_valueOf_0 rfl (lv_at hl 0 rfl) ?_
  refine pb_bip C dJ19_valueOf_1 (by decide) ?_
  refine pb_icmp_lt C dJ19_valueOf_3 (x := ((x : Nat) : Int)) (y := (-128)) (tgt := 23) (by decide) (by omega) (by omega) (fun c3_ => ?_) (fun c3_ => ?_)
  · omega
  · refine pb_iload_n C dJ19_valueOf_6 rfl (lv_at hl 0 rfl) ?_
    refine pb_gets C (n := "high") (v := .int 127) hG.2.2.2.2.2.2.2.2.2.2.2.2.2.2.1.1 q1271 (fun _ h9 => h9) dJ19_valueOf_7 ?_
    rw [show (127 : Int32) = iZ 127 from by decide +kernel]
    refine pb_icmp_gt C dJ19_valueOf_10 (x := ((x : Nat) : Int)) (y := 127) (tgt := 23) (by decide) (by omega) (by omega) (fun c10_ => ?_) (fun c10_ => ?_)
    · omega
    · refine pb_gets C (n := "cache") (v := .ref (w.2.2.1 8)) hG.2.2.2.2.2.2.2.2.2.2.2.2.2.2.1.2.1 q1273 (fun _ h9 => h9) dJ19_valueOf_13 ?_
      refine pb_iload_n C dJ19_valueOf_16 rfl (lv_at hl 0 rfl) ?_
      refine pb_sip C dJ19_valueOf_17 (by decide) ?_
      refine pb_iadd C dJ19_valueOf_20 ?_
      obtain ⟨hi1, hi2, hi3, hi4⟩ := hG.2.2.2.2.2.2.2.2.2.2.2.2.2.2.1
      refine pb_tq C (i := (((x + 128) : Nat) : Int)) (v := .ref (cB w x)) hi3 (by omega) (by exact congrArg (fun z : Nat => Value.ref (w.2.2.1 (256 + z))) (by omega)) dJ19_valueOf_21 ?_
      exact pb_aret C (Or.inl ⟨_, rfl⟩) dJ19_valueOf_22 (Or.inr ⟨_, rfl⟩) (⟨rfl, rfl⟩)

set_option maxHeartbeats 1000000 in
theorem met_X14_indexOf {w : pb_W} (l : Launch) {H : Heap} (x y a : Nat) : pb_M w l yX14_indexOf cX14_indexOf 3 (some .int) 0 (0) (0) [.int (iZ (((x : Nat) : Int))), .int (iZ (((y : Nat) : Int))), .int (iZ (((a : Nat) : Int)))] H (pb_qx (.int (iZ ((((25 * y + x) * 4 + a : Nat)) : Int))) H) := by
  refine pb_of (by decide +kernel) (Nat.le_of_ble_eq_true rfl) ?_
  intro p_ e_ s_ m_ ar_ bl_ me_ co_ ls C hh hG hl
  have hl : lv_has ls 3 [(0, .int (iZ (((x : Nat) : Int)))), (1, .int (iZ (((y : Nat) : Int)))), (2, .int (iZ (((a : Nat) : Int))))] := hl
  refine pb_bip C dX14_indexOf_0 (by decide) ?_
  refine pb_iload_n C dX14_indexOf_2 rfl (lv_at hl 1 rfl) ?_
  refine pb_imul C dX14_indexOf_3 ?_
  refine pb_iload_n C dX14_indexOf_4 rfl (lv_at hl 0 rfl) ?_
  refine pb_iadd C dX14_indexOf_5 ?_
  refine pb_ic C dX14_indexOf_6 ?_
  refine pb_imul C dX14_indexOf_7 ?_
  refine pb_iload_n C dX14_indexOf_8 rfl (lv_at hl 2 rfl) ?_
  refine pb_iadd C dX14_indexOf_9 ?_
  exact pb_iret C dX14_indexOf_10 (⟨rfl, rfl⟩)

set_option maxHeartbeats 1000000 in
theorem met_X14_stepX {w : pb_W} (l : Launch) {H : Heap} (a : Nat) (ha : a < 4) : pb_M w l yX14_stepX cX14_stepX 1 (some .int) 0 (0) (0) [.int (iZ (((a : Nat) : Int)))] H (pb_qx (.int (iZ (stX a))) H) := by
  refine pb_of (by decide +kernel) (Nat.le_of_ble_eq_true rfl) ?_
  intro p_ e_ s_ m_ ar_ bl_ me_ co_ ls C hh hG hl
  have hl : lv_has ls 1 [(0, .int (iZ (((a : Nat) : Int))))] := hl
  refine pb_iload_n C dX14_stepX_0 rfl (lv_at hl 0 rfl) ?_
  refine pb_if_ne C dX14_stepX_1 (x := ((a : Nat) : Int)) (tgt := 8) (by decide) (by omega) (fun c1_ => ?_) (fun c1_ => ?_)
  · refine pb_iload_n C dX14_stepX_8 rfl (lv_at hl 0 rfl) ?_
    refine pb_ic C dX14_stepX_9 ?_
    refine pb_icmp_ne C dX14_stepX_10 (x := ((a : Nat) : Int)) (y := 2) (tgt := 17) (by decide) (by omega) (by omega) (fun c10_ => ?_) (fun c10_ => ?_)
    · refine pb_ic C dX14_stepX_17 ?_
      exact pb_iret C dX14_stepX_18 (⟨by rw [show stX a = 0 from by unfold stX; rw [if_neg (by omega), if_neg (by omega)]], rfl⟩)
    · refine pb_ic C dX14_stepX_13 ?_
      refine pb_goto C dX14_stepX_14 (tgt := 18) (by decide) ?_
      exact pb_iret C dX14_stepX_18 (⟨by rw [show stX a = -1 from by unfold stX; rw [if_neg (by omega), if_pos (by omega)]], rfl⟩)
  · refine pb_ic C dX14_stepX_4 ?_
    refine pb_goto C dX14_stepX_5 (tgt := 18) (by decide) ?_
    exact pb_iret C dX14_stepX_18 (⟨by rw [show stX a = 1 from if_pos (by omega)], rfl⟩)

set_option maxHeartbeats 1000000 in
theorem met_X14_stepY {w : pb_W} (l : Launch) {H : Heap} (a : Nat) (ha : a < 4) : pb_M w l yX14_stepY cX14_stepY 1 (some .int) 0 (0) (0) [.int (iZ (((a : Nat) : Int)))] H (pb_qx (.int (iZ (stY a))) H) := by
  refine pb_of (by decide +kernel) (Nat.le_of_ble_eq_true rfl) ?_
  intro p_ e_ s_ m_ ar_ bl_ me_ co_ ls C hh hG hl
  have hl : lv_has ls 1 [(0, .int (iZ (((a : Nat) : Int))))] := hl
  refine pb_iload_n C dX14_stepY_0 rfl (lv_at hl 0 rfl) ?_
  refine pb_ic C dX14_stepY_1 ?_
  refine pb_icmp_ne C dX14_stepY_2 (x := ((a : Nat) : Int)) (y := 1) (tgt := 9) (by decide) (by omega) (by omega) (fun c2_ => ?_) (fun c2_ => ?_)
  · refine pb_iload_n C dX14_stepY_9 rfl (lv_at hl 0 rfl) ?_
    refine pb_ic C dX14_stepY_10 ?_
    refine pb_icmp_ne C dX14_stepY_11 (x := ((a : Nat) : Int)) (y := 3) (tgt := 18) (by decide) (by omega) (by omega) (fun c11_ => ?_) (fun c11_ => ?_)
    · refine pb_ic C dX14_stepY_18 ?_
      exact pb_iret C dX14_stepY_19 (⟨by rw [show stY a = 0 from by unfold stY; rw [if_neg (by omega), if_neg (by omega)]], rfl⟩)
    · refine pb_ic C dX14_stepY_14 ?_
      refine pb_goto C dX14_stepY_15 (tgt := 19) (by decide) ?_
      exact pb_iret C dX14_stepY_19 (⟨by rw [show stY a = -1 from by unfold stY; rw [if_neg (by omega), if_pos (by omega)]], rfl⟩)
  · refine pb_ic C dX14_stepY_5 ?_
    refine pb_goto C dX14_stepY_6 (tgt := 19) (by decide) ?_
    exact pb_iret C dX14_stepY_19 (⟨by rw [show stY a = 1 from if_pos (by omega)], rfl⟩)

set_option maxHeartbeats 1000000 in
theorem met_X14_hasLine_0 {w : pb_W} (l : Launch) {H : Heap} (t c u ol : Nat) (P : Nat → Prop) (g : Nat → Nat) (hT : pb_R w H t 12 [.ref c, .ref u, .ref ol]) (hQ : Cq w H P c g) (hg : gok g) (x y : Nat) (hx : x ≤ 24) (hy : y ≤ 24) : pb_M w l yX14_hasLine cX14_hasLine 8 (some .boolean) 3 (0) (0) [.ref (t), .int (iZ (((x : Nat) : Int))), .int (iZ (((y : Nat) : Int))), .int (iZ (0))] H (pb_qx (.int (iZ (bI (ldr g ((x : Nat) : Int) ((y : Nat) : Int) 0)))) H) := by
  refine pb_of (by decide +kernel) (Nat.le_of_ble_eq_true rfl) ?_
  intro p_ e_ s_ m_ ar_ bl_ me_ co_ ls C hh hG hl
  have hl : lv_has ls 8 [(0, .ref (t)), (1, .int (iZ (((x : Nat) : Int)))), (2, .int (iZ (((y : Nat) : Int)))), (3, .int (iZ (0)))] := hl
  obtain ⟨fsq_, hQo⟩ := hQ.o
  refine pb_aload_n C dX14_hasLine_0 rfl (lv_at hl 0 rfl) ?_
  refine pb_get C in_X14 hT (ci := 12) rfl 0 (by decide) q1305 (fun _ h9 => h9) (v := .ref (c)) rfl dX14_hasLine_1 ?_
  refine pb_iload_n C dX14_hasLine_4 rfl (lv_at hl 1 rfl) ?_
  refine pb_iload_n C dX14_hasLine_5 rfl (lv_at hl 2 rfl) ?_
  refine pb_go_x (bc' := 0) (bs' := 0) (pb_runV (rest := []) C hG ((by have h9 := met_X12_contains l c P g hQ (((x : Nat) : Int)) (((y : Nat) : Int)) (by omega) (by omega); rw [gcI_gc hg] at h9; exact h9)) hQo (ci := 11) rfl (lw_V q1237 q1034 q1035 q82 q1036) ⟨rfl, hdX12_contains⟩ rfl hl.1 rfl (Nat.le_of_ble_eq_true rfl) ⟨(Nat.le_of_ble_eq_true rfl), (Nat.le_of_ble_eq_true rfl)⟩ dX14_hasLine_6) (by omega) (by omega) ?_
  refine pb_istore C dX14_hasLine_9 hl (by decide) rfl fun ls hl => ?_
  have hl : lv_has ls 8 [(4, .int (iZ ((bI ((gc g (((x : Nat) : Int)) (((y : Nat) : Int)))))))), (0, .ref (t)), (1, .int (iZ (((x : Nat) : Int)))), (2, .int (iZ (((y : Nat) : Int)))), (3, .int (iZ (0)))] := hl
  refine pb_aload_n C dX14_hasLine_11 rfl (lv_at hl 1 rfl) ?_
  refine pb_get C in_X14 hT (ci := 12) rfl 0 (by decide) q1305 (fun _ h9 => h9) (v := .ref (c)) rfl dX14_hasLine_12 ?_
  refine pb_iload_n C dX14_hasLine_15 rfl (lv_at hl 2 rfl) ?_
  refine pb_ic C dX14_hasLine_16 ?_
  refine pb_isub C dX14_hasLine_17 ?_
  refine pb_iload_n C dX14_hasLine_18 rfl (lv_at hl 3 rfl) ?_
  refine pb_go_x (bc' := 0) (bs' := 0) (pb_runV (rest := []) C hG ((by have h9 := met_X12_contains l c P g hQ ((((x : Nat) : Int) - 1)) (((y : Nat) : Int)) (by omega) (by omega); rw [gcI_gc hg] at h9; exact h9)) hQo (ci := 11) rfl (lw_V q1237 q1034 q1035 q82 q1036) ⟨rfl, hdX12_contains⟩ rfl hl.1 rfl (Nat.le_of_ble_eq_true rfl) ⟨(Nat.le_of_ble_eq_true rfl), (Nat.le_of_ble_eq_true rfl)⟩ dX14_hasLine_19) (by omega) (by omega) ?_
  refine pb_istore C dX14_hasLine_22 hl (by decide) rfl fun ls hl => ?_
  have hl : lv_has ls 8 [(5, .int (iZ ((bI ((gc g ((((x : Nat) : Int) - 1)) (((y : Nat) : Int)))))))), (4, .int (iZ ((bI ((gc g (((x : Nat) : Int)) (((y : Nat) : Int)))))))), (0, .ref (t)), (1, .int (iZ (((x : Nat) : Int)))), (2, .int (iZ (((y : Nat) : Int)))), (3, .int (iZ (0)))] := hl
  refine pb_aload_n C dX14_hasLine_24 rfl (lv_at hl 2 rfl) ?_
  refine pb_get C in_X14 hT (ci := 12) rfl 0 (by decide) q1305 (fun _ h9 => h9) (v := .ref (c)) rfl dX14_hasLine_25 ?_
  refine pb_iload_n C dX14_hasLine_28 rfl (lv_at hl 3 rfl) ?_
  refine pb_ic C dX14_hasLine_29 ?_
  refine pb_isub C dX14_hasLine_30 ?_
  refine pb_iload_n C dX14_hasLine_31 rfl (lv_at hl 4 rfl) ?_
  refine pb_ic C dX14_hasLine_32 ?_
  refine pb_isub C dX14_hasLine_33 ?_
  refine pb_go_x (bc' := 0) (bs' := 0) (pb_runV (rest := []) C hG ((by have h9 := met_X12_contains l c P g hQ ((((x : Nat) : Int) - 1)) ((((y : Nat) : Int) - 1)) (by omega) (by omega); rw [gcI_gc hg] at h9; exact h9)) hQo (ci := 11) rfl (lw_V q1237 q1034 q1035 q82 q1036) ⟨rfl, hdX12_contains⟩ rfl hl.1 rfl (Nat.le_of_ble_eq_true rfl) ⟨(Nat.le_of_ble_eq_true rfl), (Nat.le_of_ble_eq_true rfl)⟩ dX14_hasLine_34) (by omega) (by omega) ?_
  refine pb_istore C dX14_hasLine_37 hl (by decide) rfl fun ls hl => ?_
  have hl : lv_has ls 8 [(6, .int (iZ ((bI ((gc g ((((x : Nat) : Int) - 1)) ((((y : Nat) : Int) - 1)))))))), (5, .int (iZ ((bI ((gc g ((((x : Nat) : Int) - 1)) (((y : Nat) : Int)))))))), (4, .int (iZ ((bI ((gc g (((x : Nat) : Int)) (((y : Nat) : Int)))))))), (0, .ref (t)), (1, .int (iZ (((x : Nat) : Int)))), (2, .int (iZ (((y : Nat) : Int)))), (3, .int (iZ (0)))] := hl
  refine pb_aload_n C dX14_hasLine_39 rfl (lv_at hl 3 rfl) ?_
  refine pb_get C in_X14 hT (ci := 12) rfl 0 (by decide) q1305 (fun _ h9 => h9) (v := .ref (c)) rfl dX14_hasLine_40 ?_
  refine pb_iload_n C dX14_hasLine_43 rfl (lv_at hl 4 rfl) ?_
  refine pb_iload_n C dX14_hasLine_44 rfl (lv_at hl 5 rfl) ?_
  refine pb_ic C dX14_hasLine_45 ?_
  refine pb_isub C dX14_hasLine_46 ?_
  refine pb_go_x (bc' := 0) (bs' := 0) (pb_runV (rest := []) C hG ((by have h9 := met_X12_contains l c P g hQ (((x : Nat) : Int)) ((((y : Nat) : Int) - 1)) (by omega) (by omega); rw [gcI_gc hg] at h9; exact h9)) hQo (ci := 11) rfl (lw_V q1237 q1034 q1035 q82 q1036) ⟨rfl, hdX12_contains⟩ rfl hl.1 rfl (Nat.le_of_ble_eq_true rfl) ⟨(Nat.le_of_ble_eq_true rfl), (Nat.le_of_ble_eq_true rfl)⟩ dX14_hasLine_47) (by omega) (by omega) ?_
  refine pb_istore C dX14_hasLine_50 hl (by decide) rfl fun ls hl => ?_
  have hl : lv_has ls 8 [(7, .int (iZ ((bI ((gc g (((x : Nat) : Int)) ((((y : Nat) : Int) - 1)))))))), (6, .int (iZ ((bI ((gc g ((((x : Nat) : Int) - 1)) ((((y : Nat) : Int) - 1)))))))), (5, .int (iZ ((bI ((gc g ((((x : Nat) : Int) - 1)) (((y : Nat) : Int)))))))), (4, .int (iZ ((bI ((gc g (((x : Nat) : Int)) (((y : Nat) : Int)))))))), (0, .ref (t)), (1, .int (iZ (((x : Nat) : Int)))), (2, .int (iZ (((y : Nat) : Int)))), (3, .int (iZ (0)))] := hl
  refine pb_iload_n C dX14_hasLine_52 rfl (lv_at hl 7 rfl) ?_
  refine pb_tswI C (x := 0) (tgt := 80) dX14_hasLine_53 (by decide) (by decide) (by decide) rfl (by decide) ?_
  refine pb_iload C dX14_hasLine_80 (lv_at hl 3 rfl) ?_
  refine pb_ifB_eq C dX14_hasLine_82 (tgt := 94) (by decide) (fun c82_ => ?_) (fun c82_ => ?_)
  · refine pb_ic C dX14_hasLine_94 ?_
    refine pb_goto C dX14_hasLine_95 (tgt := 149) (by decide) ?_
    exact pb_zret C dX14_hasLine_149 (by decide +kernel) (⟨by rw [show ldr g ((x : Nat) : Int) ((y : Nat) : Int) 0 = false from by show (gc g ((x : Nat) : Int) ((y : Nat) : Int) && !gc g ((x : Nat) : Int) (((y : Nat) : Int) - 1)) = false; rw [c82_]; rfl]; rfl, rfl⟩)
  · refine pb_iload C dX14_hasLine_85 (lv_at hl 0 rfl) ?_
    refine pb_ifB_ne C dX14_hasLine_87 (tgt := 94) (by decide) (fun c87_ => ?_) (fun c87_ => ?_)
    · refine pb_ic C dX14_hasLine_94 ?_
      refine pb_goto C dX14_hasLine_95 (tgt := 149) (by decide) ?_
      exact pb_zret C dX14_hasLine_149 (by decide +kernel) (⟨by rw [show ldr g ((x : Nat) : Int) ((y : Nat) : Int) 0 = false from by show (gc g ((x : Nat) : Int) ((y : Nat) : Int) && !gc g ((x : Nat) : Int) (((y : Nat) : Int) - 1)) = false; rw [c82_, c87_]; rfl]; rfl, rfl⟩)
    · refine pb_ic C dX14_hasLine_90 ?_
      refine pb_goto C dX14_hasLine_91 (tgt := 149) (by decide) ?_
      exact pb_zret C dX14_hasLine_149 (by decide +kernel) (⟨by rw [show ldr g ((x : Nat) : Int) ((y : Nat) : Int) 0 = true from by show (gc g ((x : Nat) : Int) ((y : Nat) : Int) && !gc g ((x : Nat) : Int) (((y : Nat) : Int) - 1)) = true; rw [c82_, c87_]; rfl]; rfl, rfl⟩)

set_option maxHeartbeats 1000000 in
theorem met_X14_hasLine_1 {w : pb_W} (l : Launch) {H : Heap} (t c u ol : Nat) (P : Nat → Prop) (g : Nat → Nat) (hT : pb_R w H t 12 [.ref c, .ref u, .ref ol]) (hQ : Cq w H P c g) (hg : gok g) (x y : Nat) (hx : x ≤ 24) (hy : y ≤ 24) : pb_M w l yX14_hasLine cX14_hasLine 8 (some .boolean) 3 (0) (0) [.ref (t), .int (iZ (((x : Nat) : Int))), .int (iZ (((y : Nat) : Int))), .int (iZ (1))] H (pb_qx (.int (iZ (bI (ldr g ((x : Nat) : Int) ((y : Nat) : Int) 1)))) H) := by
  refine pb_of (by decide +kernel) (Nat.le_of_ble_eq_true rfl) ?_
  intro p_ e_ s_ m_ ar_ bl_ me_ co_ ls C hh hG hl
  have hl : lv_has ls 8 [(0, .ref (t)), (1, .int (iZ (((x : Nat) : Int)))), (2, .int (iZ (((y : Nat) : Int)))), (3, .int (iZ (1)))] := hl
  obtain ⟨fsq_, hQo⟩ := hQ.o
  refine pb_aload_n C dX14_hasLine_0 rfl (lv_at hl 0 rfl) ?_
  refine pb_get C in_X14 hT (ci := 12) rfl 0 (by decide) q1305 (fun _ h9 => h9) (v := .ref (c)) rfl dX14_hasLine_1 ?_
  refine pb_iload_n C dX14_hasLine_4 rfl (lv_at hl 1 rfl) ?_
  refine pb_iload_n C dX14_hasLine_5 rfl (lv_at hl 2 rfl) ?_
  refine pb_go_x (bc' := 0) (bs' := 0) (pb_runV (rest := []) C hG ((by have h9 := met_X12_contains l c P g hQ (((x : Nat) : Int)) (((y : Nat) : Int)) (by omega) (by omega); rw [gcI_gc hg] at h9; exact h9)) hQo (ci := 11) rfl (lw_V q1237 q1034 q1035 q82 q1036) ⟨rfl, hdX12_contains⟩ rfl hl.1 rfl (Nat.le_of_ble_eq_true rfl) ⟨(Nat.le_of_ble_eq_true rfl), (Nat.le_of_ble_eq_true rfl)⟩ dX14_hasLine_6) (by omega) (by omega) ?_
  refine pb_istore C dX14_hasLine_9 hl (by decide) rfl fun ls hl => ?_
  have hl : lv_has ls 8 [(4, .int (iZ ((bI ((gc g (((x : Nat) : Int)) (((y : Nat) : Int)))))))), (0, .ref (t)), (1, .int (iZ (((x : Nat) : Int)))), (2, .int (iZ (((y : Nat) : Int)))), (3, .int (iZ (1)))] := hl
  refine pb_aload_n C dX14_hasLine_11 rfl (lv_at hl 1 rfl) ?_
  refine pb_get C in_X14 hT (ci := 12) rfl 0 (by decide) q1305 (fun _ h9 => h9) (v := .ref (c)) rfl dX14_hasLine_12 ?_
  refine pb_iload_n C dX14_hasLine_15 rfl (lv_at hl 2 rfl) ?_
  refine pb_ic C dX14_hasLine_16 ?_
  refine pb_isub C dX14_hasLine_17 ?_
  refine pb_iload_n C dX14_hasLine_18 rfl (lv_at hl 3 rfl) ?_
  refine pb_go_x (bc' := 0) (bs' := 0) (pb_runV (rest := []) C hG ((by have h9 := met_X12_contains l c P g hQ ((((x : Nat) : Int) - 1)) (((y : Nat) : Int)) (by omega) (by omega); rw [gcI_gc hg] at h9; exact h9)) hQo (ci := 11) rfl (lw_V q1237 q1034 q1035 q82 q1036) ⟨rfl, hdX12_contains⟩ rfl hl.1 rfl (Nat.le_of_ble_eq_true rfl) ⟨(Nat.le_of_ble_eq_true rfl), (Nat.le_of_ble_eq_true rfl)⟩ dX14_hasLine_19) (by omega) (by omega) ?_
  refine pb_istore C dX14_hasLine_22 hl (by decide) rfl fun ls hl => ?_
  have hl : lv_has ls 8 [(5, .int (iZ ((bI ((gc g ((((x : Nat) : Int) - 1)) (((y : Nat) : Int)))))))), (4, .int (iZ ((bI ((gc g (((x : Nat) : Int)) (((y : Nat) : Int)))))))), (0, .ref (t)), (1, .int (iZ (((x : Nat) : Int)))), (2, .int (iZ (((y : Nat) : Int)))), (3, .int (iZ (1)))] := hl
  refine pb_aload_n C dX14_hasLine_24 rfl (lv_at hl 2 rfl) ?_
  refine pb_get C in_X14 hT (ci := 12) rfl 0 (by decide) q1305 (fun _ h9 => h9) (v := .ref (c)) rfl dX14_hasLine_25 ?_
  refine pb_iload_n C dX14_hasLine_28 rfl (lv_at hl 3 rfl) ?_
  refine pb_ic C dX14_hasLine_29 ?_
  refine pb_isub C dX14_hasLine_30 ?_
  refine pb_iload_n C dX14_hasLine_31 rfl (lv_at hl 4 rfl) ?_
  refine pb_ic C dX14_hasLine_32 ?_
  refine pb_isub C dX14_hasLine_33 ?_
  refine pb_go_x (bc' := 0) (bs' := 0) (pb_runV (rest := []) C hG ((by have h9 := met_X12_contains l c P g hQ ((((x : Nat) : Int) - 1)) ((((y : Nat) : Int) - 1)) (by omega) (by omega); rw [gcI_gc hg] at h9; exact h9)) hQo (ci := 11) rfl (lw_V q1237 q1034 q1035 q82 q1036) ⟨rfl, hdX12_contains⟩ rfl hl.1 rfl (Nat.le_of_ble_eq_true rfl) ⟨(Nat.le_of_ble_eq_true rfl), (Nat.le_of_ble_eq_true rfl)⟩ dX14_hasLine_34) (by omega) (by omega) ?_
  refine pb_istore C dX14_hasLine_37 hl (by decide) rfl fun ls hl => ?_
  have hl : lv_has ls 8 [(6, .int (iZ ((bI ((gc g ((((x : Nat) : Int) - 1)) ((((y : Nat) : Int) - 1)))))))), (5, .int (iZ ((bI ((gc g ((((x : Nat) : Int) - 1)) (((y : Nat) : Int)))))))), (4, .int (iZ ((bI ((gc g (((x : Nat) : Int)) (((y : Nat) : Int)))))))), (0, .ref (t)), (1, .int (iZ (((x : Nat) : Int)))), (2, .int (iZ (((y : Nat) : Int)))), (3, .int (iZ (1)))] := hl
  refine pb_aload_n C dX14_hasLine_39 rfl (lv_at hl 3 rfl) ?_
  refine pb_get C in_X14 hT (ci := 12) rfl 0 (by decide) q1305 (fun _ h9 => h9) (v := .ref (c)) rfl dX14_hasLine_40 ?_
  refine pb_iload_n C dX14_hasLine_43 rfl (lv_at hl 4 rfl) ?_
  refine pb_iload_n C dX14_hasLine_44 rfl (lv_at hl 5 rfl) ?_
  refine pb_ic C dX14_hasLine_45 ?_
  refine pb_isub C dX14_hasLine_46 ?_
  refine pb_go_x (bc' := 0) (bs' := 0) (pb_runV (rest := []) C hG ((by have h9 := met_X12_contains l c P g hQ (((x : Nat) : Int)) ((((y : Nat) : Int) - 1)) (by omega) (by omega); rw [gcI_gc hg] at h9; exact h9)) hQo (ci := 11) rfl (lw_V q1237 q1034 q1035 q82 q1036) ⟨rfl, hdX12_contains⟩ rfl hl.1 rfl (Nat.le_of_ble_eq_true rfl) ⟨(Nat.le_of_ble_eq_true rfl), (Nat.le_of_ble_eq_true rfl)⟩ dX14_hasLine_47) (by omega) (by omega) ?_
  refine pb_istore C dX14_hasLine_50 hl (by decide) rfl fun ls hl => ?_
  have hl : lv_has ls 8 [(7, .int (iZ ((bI ((gc g (((x : Nat) : Int)) ((((y : Nat) : Int) - 1)))))))), (6, .int (iZ ((bI ((gc g ((((x : Nat) : Int) - 1)) ((((y : Nat) : Int) - 1)))))))), (5, .int (iZ ((bI ((gc g ((((x : Nat) : Int) - 1)) (((y : Nat) : Int)))))))), (4, .int (iZ ((bI ((gc g (((x : Nat) : Int)) (((y : Nat) : Int)))))))), (0, .ref (t)), (1, .int (iZ (((x : Nat) : Int)))), (2, .int (iZ (((y : Nat) : Int)))), (3, .int (iZ (1)))] := hl
  refine pb_iload_n C dX14_hasLine_52 rfl (lv_at hl 7 rfl) ?_
  refine pb_tswI C (x := 1) (tgt := 98) dX14_hasLine_53 (by decide) (by decide) (by decide) rfl (by decide) ?_
  refine pb_iload C dX14_hasLine_98 (lv_at hl 2 rfl) ?_
  refine pb_ifB_eq C dX14_hasLine_100 (tgt := 112) (by decide) (fun c100_ => ?_) (fun c100_ => ?_)
  · refine pb_ic C dX14_hasLine_112 ?_
    refine pb_goto C dX14_hasLine_113 (tgt := 149) (by decide) ?_
    exact pb_zret C dX14_hasLine_149 (by decide +kernel) (⟨by rw [show ldr g ((x : Nat) : Int) ((y : Nat) : Int) 1 = false from by show (gc g (((x : Nat) : Int) - 1) ((y : Nat) : Int) && !gc g ((x : Nat) : Int) ((y : Nat) : Int)) = false; rw [c100_]; rfl]; rfl, rfl⟩)
  · refine pb_iload C dX14_hasLine_103 (lv_at hl 3 rfl) ?_
    refine pb_ifB_ne C dX14_hasLine_105 (tgt := 112) (by decide) (fun c105_ => ?_) (fun c105_ => ?_)
    · refine pb_ic C dX14_hasLine_112 ?_
      refine pb_goto C dX14_hasLine_113 (tgt := 149) (by decide) ?_
      exact pb_zret C dX14_hasLine_149 (by decide +kernel) (⟨by rw [show ldr g ((x : Nat) : Int) ((y : Nat) : Int) 1 = false from by show (gc g (((x : Nat) : Int) - 1) ((y : Nat) : Int) && !gc g ((x : Nat) : Int) ((y : Nat) : Int)) = false; rw [c100_, c105_]; rfl]; rfl, rfl⟩)
    · refine pb_ic C dX14_hasLine_108 ?_
      refine pb_goto C dX14_hasLine_109 (tgt := 149) (by decide) ?_
      exact pb_zret C dX14_hasLine_149 (by decide +kernel) (⟨by rw [show ldr g ((x : Nat) : Int) ((y : Nat) : Int) 1 = true from by show (gc g (((x : Nat) : Int) - 1) ((y : Nat) : Int) && !gc g ((x : Nat) : Int) ((y : Nat) : Int)) = true; rw [c100_, c105_]; rfl]; rfl, rfl⟩)

set_option maxHeartbeats 1000000 in
theorem met_X14_hasLine_2 {w : pb_W} (l : Launch) {H : Heap} (t c u ol : Nat) (P : Nat → Prop) (g : Nat → Nat) (hT : pb_R w H t 12 [.ref c, .ref u, .ref ol]) (hQ : Cq w H P c g) (hg : gok g) (x y : Nat) (hx : x ≤ 24) (hy : y ≤ 24) : pb_M w l yX14_hasLine cX14_hasLine 8 (some .boolean) 3 (0) (0) [.ref (t), .int (iZ (((x : Nat) : Int))), .int (iZ (((y : Nat) : Int))), .int (iZ (2))] H (pb_qx (.int (iZ (bI (ldr g ((x : Nat) : Int) ((y : Nat) : Int) 2)))) H) := by
  refine pb_of (by decide +kernel) (Nat.le_of_ble_eq_true rfl) ?_
  intro p_ e_ s_ m_ ar_ bl_ me_ co_ ls C hh hG hl
  have hl : lv_has ls 8 [(0, .ref (t)), (1, .int (iZ (((x : Nat) : Int)))), (2, .int (iZ (((y : Nat) : Int)))), (3, .int (iZ (2)))] := hl
  obtain ⟨fsq_, hQo⟩ := hQ.o
  refine pb_aload_n C dX14_hasLine_0 rfl (lv_at hl 0 rfl) ?_
  refine pb_get C in_X14 hT (ci := 12) rfl 0 (by decide) q1305 (fun _ h9 => h9) (v := .ref (c)) rfl dX14_hasLine_1 ?_
  refine pb_iload_n C dX14_hasLine_4 rfl (lv_at hl 1 rfl) ?_
  refine pb_iload_n C dX14_hasLine_5 rfl (lv_at hl 2 rfl) ?_
  refine pb_go_x (bc' := 0) (bs' := 0) (pb_runV (rest := []) C hG ((by have h9 := met_X12_contains l c P g hQ (((x : Nat) : Int)) (((y : Nat) : Int)) (by omega) (by omega); rw [gcI_gc hg] at h9; exact h9)) hQo (ci := 11) rfl (lw_V q1237 q1034 q1035 q82 q1036) ⟨rfl, hdX12_contains⟩ rfl hl.1 rfl (Nat.le_of_ble_eq_true rfl) ⟨(Nat.le_of_ble_eq_true rfl), (Nat.le_of_ble_eq_true rfl)⟩ dX14_hasLine_6) (by omega) (by omega) ?_
  refine pb_istore C dX14_hasLine_9 hl (by decide) rfl fun ls hl => ?_
  have hl : lv_has ls 8 [(4, .int (iZ ((bI ((gc g (((x : Nat) : Int)) (((y : Nat) : Int)))))))), (0, .ref (t)), (1, .int (iZ (((x : Nat) : Int)))), (2, .int (iZ (((y : Nat) : Int)))), (3, .int (iZ (2)))] := hl
  refine pb_aload_n C dX14_hasLine_11 rfl (lv_at hl 1 rfl) ?_
  refine pb_get C in_X14 hT (ci := 12) rfl 0 (by decide) q1305 (fun _ h9 => h9) (v := .ref (c)) rfl dX14_hasLine_12 ?_
  refine pb_iload_n C dX14_hasLine_15 rfl (lv_at hl 2 rfl) ?_
  refine pb_ic C dX14_hasLine_16 ?_
  refine pb_isub C dX14_hasLine_17 ?_
  refine pb_iload_n C dX14_hasLine_18 rfl (lv_at hl 3 rfl) ?_
  refine pb_go_x (bc' := 0) (bs' := 0) (pb_runV (rest := []) C hG ((by have h9 := met_X12_contains l c P g hQ ((((x : Nat) : Int) - 1)) (((y : Nat) : Int)) (by omega) (by omega); rw [gcI_gc hg] at h9; exact h9)) hQo (ci := 11) rfl (lw_V q1237 q1034 q1035 q82 q1036) ⟨rfl, hdX12_contains⟩ rfl hl.1 rfl (Nat.le_of_ble_eq_true rfl) ⟨(Nat.le_of_ble_eq_true rfl), (Nat.le_of_ble_eq_true rfl)⟩ dX14_hasLine_19) (by omega) (by omega) ?_
  refine pb_istore C dX14_hasLine_22 hl (by decide) rfl fun ls hl => ?_
  have hl : lv_has ls 8 [(5, .int (iZ ((bI ((gc g ((((x : Nat) : Int) - 1)) (((y : Nat) : Int)))))))), (4, .int (iZ ((bI ((gc g (((x : Nat) : Int)) (((y : Nat) : Int)))))))), (0, .ref (t)), (1, .int (iZ (((x : Nat) : Int)))), (2, .int (iZ (((y : Nat) : Int)))), (3, .int (iZ (2)))] := hl
  refine pb_aload_n C dX14_hasLine_24 rfl (lv_at hl 2 rfl) ?_
  refine pb_get C in_X14 hT (ci := 12) rfl 0 (by decide) q1305 (fun _ h9 => h9) (v := .ref (c)) rfl dX14_hasLine_25 ?_
  refine pb_iload_n C dX14_hasLine_28 rfl (lv_at hl 3 rfl) ?_
  refine pb_ic C dX14_hasLine_29 ?_
  refine pb_isub C dX14_hasLine_30 ?_
  refine pb_iload_n C dX14_hasLine_31 rfl (lv_at hl 4 rfl) ?_
  refine pb_ic C dX14_hasLine_32 ?_
  refine pb_isub C dX14_hasLine_33 ?_
  refine pb_go_x (bc' := 0) (bs' := 0) (pb_runV (rest := []) C hG ((by have h9 := met_X12_contains l c P g hQ ((((x : Nat) : Int) - 1)) ((((y : Nat) : Int) - 1)) (by omega) (by omega); rw [gcI_gc hg] at h9; exact h9)) hQo (ci := 11) rfl (lw_V q1237 q1034 q1035 q82 q1036) ⟨rfl, hdX12_contains⟩ rfl hl.1 rfl (Nat.le_of_ble_eq_true rfl) ⟨(Nat.le_of_ble_eq_true rfl), (Nat.le_of_ble_eq_true rfl)⟩ dX14_hasLine_34) (by omega) (by omega) ?_
  refine pb_istore C dX14_hasLine_37 hl (by decide) rfl fun ls hl => ?_
  have hl : lv_has ls 8 [(6, .int (iZ ((bI ((gc g ((((x : Nat) : Int) - 1)) ((((y : Nat) : Int) - 1)))))))), (5, .int (iZ ((bI ((gc g ((((x : Nat) : Int) - 1)) (((y : Nat) : Int)))))))), (4, .int (iZ ((bI ((gc g (((x : Nat) : Int)) (((y : Nat) : Int)))))))), (0, .ref (t)), (1, .int (iZ (((x : Nat) : Int)))), (2, .int (iZ (((y : Nat) : Int)))), (3, .int (iZ (2)))] := hl
  refine pb_aload_n C dX14_hasLine_39 rfl (lv_at hl 3 rfl) ?_
  refine pb_get C in_X14 hT (ci := 12) rfl 0 (by decide) q1305 (fun _ h9 => h9) (v := .ref (c)) rfl dX14_hasLine_40 ?_
  refine pb_iload_n C dX14_hasLine_43 rfl (lv_at hl 4 rfl) ?_
  refine pb_iload_n C dX14_hasLine_44 rfl (lv_at hl 5 rfl) ?_
  refine pb_ic C dX14_hasLine_45 ?_
  refine pb_isub C dX14_hasLine_46 ?_
  refine pb_go_x (bc' := 0) (bs' := 0) (pb_runV (rest := []) C hG ((by have h9 := met_X12_contains l c P g hQ (((x : Nat) : Int)) ((((y : Nat) : Int) - 1)) (by omega) (by omega); rw [gcI_gc hg] at h9; exact h9)) hQo (ci := 11) rfl (lw_V q1237 q1034 q1035 q82 q1036) ⟨rfl, hdX12_contains⟩ rfl hl.1 rfl (Nat.le_of_ble_eq_true rfl) ⟨(Nat.le_of_ble_eq_true rfl), (Nat.le_of_ble_eq_true rfl)⟩ dX14_hasLine_47) (by omega) (by omega) ?_
  refine pb_istore C dX14_hasLine_50 hl (by decide) rfl fun ls hl => ?_
  have hl : lv_has ls 8 [(7, .int (iZ ((bI ((gc g (((x : Nat) : Int)) ((((y : Nat) : Int) - 1)))))))), (6, .int (iZ ((bI ((gc g ((((x : Nat) : Int) - 1)) ((((y : Nat) : Int) - 1)))))))), (5, .int (iZ ((bI ((gc g ((((x : Nat) : Int) - 1)) (((y : Nat) : Int)))))))), (4, .int (iZ ((bI ((gc g (((x : Nat) : Int)) (((y : Nat) : Int)))))))), (0, .ref (t)), (1, .int (iZ (((x : Nat) : Int)))), (2, .int (iZ (((y : Nat) : Int)))), (3, .int (iZ (2)))] := hl
  refine pb_iload_n C dX14_hasLine_52 rfl (lv_at hl 7 rfl) ?_
  refine pb_tswI C (x := 2) (tgt := 116) dX14_hasLine_53 (by decide) (by decide) (by decide) rfl (by decide) ?_
  refine pb_iload C dX14_hasLine_116 (lv_at hl 1 rfl) ?_
  refine pb_ifB_eq C dX14_hasLine_118 (tgt := 130) (by decide) (fun c118_ => ?_) (fun c118_ => ?_)
  · refine pb_ic C dX14_hasLine_130 ?_
    refine pb_goto C dX14_hasLine_131 (tgt := 149) (by decide) ?_
    exact pb_zret C dX14_hasLine_149 (by decide +kernel) (⟨by rw [show ldr g ((x : Nat) : Int) ((y : Nat) : Int) 2 = false from by show (gc g (((x : Nat) : Int) - 1) (((y : Nat) : Int) - 1) && !gc g (((x : Nat) : Int) - 1) ((y : Nat) : Int)) = false; rw [c118_]; rfl]; rfl, rfl⟩)
  · refine pb_iload C dX14_hasLine_121 (lv_at hl 2 rfl) ?_
    refine pb_ifB_ne C dX14_hasLine_123 (tgt := 130) (by decide) (fun c123_ => ?_) (fun c123_ => ?_)
    · refine pb_ic C dX14_hasLine_130 ?_
      refine pb_goto C dX14_hasLine_131 (tgt := 149) (by decide) ?_
      exact pb_zret C dX14_hasLine_149 (by decide +kernel) (⟨by rw [show ldr g ((x : Nat) : Int) ((y : Nat) : Int) 2 = false from by show (gc g (((x : Nat) : Int) - 1) (((y : Nat) : Int) - 1) && !gc g (((x : Nat) : Int) - 1) ((y : Nat) : Int)) = false; rw [c118_, c123_]; rfl]; rfl, rfl⟩)
    · refine pb_ic C dX14_hasLine_126 ?_
      refine pb_goto C dX14_hasLine_127 (tgt := 149) (by decide) ?_
      exact pb_zret C dX14_hasLine_149 (by decide +kernel) (⟨by rw [show ldr g ((x : Nat) : Int) ((y : Nat) : Int) 2 = true from by show (gc g (((x : Nat) : Int) - 1) (((y : Nat) : Int) - 1) && !gc g (((x : Nat) : Int) - 1) ((y : Nat) : Int)) = true; rw [c118_, c123_]; rfl]; rfl, rfl⟩)

set_option maxHeartbeats 1000000 in
theorem met_X14_hasLine_3 {w : pb_W} (l : Launch) {H : Heap} (t c u ol : Nat) (P : Nat → Prop) (g : Nat → Nat) (hT : pb_R w H t 12 [.ref c, .ref u, .ref ol]) (hQ : Cq w H P c g) (hg : gok g) (x y : Nat) (hx : x ≤ 24) (hy : y ≤ 24) : pb_M w l yX14_hasLine cX14_hasLine 8 (some .boolean) 3 (0) (0) [.ref (t), .int (iZ (((x : Nat) : Int))), .int (iZ (((y : Nat) : Int))), .int (iZ (3))] H (pb_qx (.int (iZ (bI (ldr g ((x : Nat) : Int) ((y : Nat) : Int) 3)))) H) := by
  refine pb_of (by decide +kernel) (Nat.le_of_ble_eq_true rfl) ?_
  intro p_ e_ s_ m_ ar_ bl_ me_ co_ ls C hh hG hl
  have hl : lv_has ls 8 [(0, .ref (t)), (1, .int (iZ (((x : Nat) : Int)))), (2, .int (iZ (((y : Nat) : Int)))), (3, .int (iZ (3)))] := hl
  obtain ⟨fsq_, hQo⟩ := hQ.o
  refine pb_aload_n C dX14_hasLine_0 rfl (lv_at hl 0 rfl) ?_
  refine pb_get C in_X14 hT (ci := 12) rfl 0 (by decide) q1305 (fun _ h9 => h9) (v := .ref (c)) rfl dX14_hasLine_1 ?_
  refine pb_iload_n C dX14_hasLine_4 rfl (lv_at hl 1 rfl) ?_
  refine pb_iload_n C dX14_hasLine_5 rfl (lv_at hl 2 rfl) ?_
  refine pb_go_x (bc' := 0) (bs' := 0) (pb_runV (rest := []) C hG ((by have h9 := met_X12_contains l c P g hQ (((x : Nat) : Int)) (((y : Nat) : Int)) (by omega) (by omega); rw [gcI_gc hg] at h9; exact h9)) hQo (ci := 11) rfl (lw_V q1237 q1034 q1035 q82 q1036) ⟨rfl, hdX12_contains⟩ rfl hl.1 rfl (Nat.le_of_ble_eq_true rfl) ⟨(Nat.le_of_ble_eq_true rfl), (Nat.le_of_ble_eq_true rfl)⟩ dX14_hasLine_6) (by omega) (by omega) ?_
  refine pb_istore C dX14_hasLine_9 hl (by decide) rfl fun ls hl => ?_
  have hl : lv_has ls 8 [(4, .int (iZ ((bI ((gc g (((x : Nat) : Int)) (((y : Nat) : Int)))))))), (0, .ref (t)), (1, .int (iZ (((x : Nat) : Int)))), (2, .int (iZ (((y : Nat) : Int)))), (3, .int (iZ (3)))] := hl
  refine pb_aload_n C dX14_hasLine_11 rfl (lv_at hl 1 rfl) ?_
  refine pb_get C in_X14 hT (ci := 12) rfl 0 (by decide) q1305 (fun _ h9 => h9) (v := .ref (c)) rfl dX14_hasLine_12 ?_
  refine pb_iload_n C dX14_hasLine_15 rfl (lv_at hl 2 rfl) ?_
  refine pb_ic C dX14_hasLine_16 ?_
  refine pb_isub C dX14_hasLine_17 ?_
  refine pb_iload_n C dX14_hasLine_18 rfl (lv_at hl 3 rfl) ?_
  refine pb_go_x (bc' := 0) (bs' := 0) (pb_runV (rest := []) C hG ((by have h9 := met_X12_contains l c P g hQ ((((x : Nat) : Int) - 1)) (((y : Nat) : Int)) (by omega) (by omega); rw [gcI_gc hg] at h9; exact h9)) hQo (ci := 11) rfl (lw_V q1237 q1034 q1035 q82 q1036) ⟨rfl, hdX12_contains⟩ rfl hl.1 rfl (Nat.le_of_ble_eq_true rfl) ⟨(Nat.le_of_ble_eq_true rfl), (Nat.le_of_ble_eq_true rfl)⟩ dX14_hasLine_19) (by omega) (by omega) ?_
  refine pb_istore C dX14_hasLine_22 hl (by decide) rfl fun ls hl => ?_
  have hl : lv_has ls 8 [(5, .int (iZ ((bI ((gc g ((((x : Nat) : Int) - 1)) (((y : Nat) : Int)))))))), (4, .int (iZ ((bI ((gc g (((x : Nat) : Int)) (((y : Nat) : Int)))))))), (0, .ref (t)), (1, .int (iZ (((x : Nat) : Int)))), (2, .int (iZ (((y : Nat) : Int)))), (3, .int (iZ (3)))] := hl
  refine pb_aload_n C dX14_hasLine_24 rfl (lv_at hl 2 rfl) ?_
  refine pb_get C in_X14 hT (ci := 12) rfl 0 (by decide) q1305 (fun _ h9 => h9) (v := .ref (c)) rfl dX14_hasLine_25 ?_
  refine pb_iload_n C dX14_hasLine_28 rfl (lv_at hl 3 rfl) ?_
  refine pb_ic C dX14_hasLine_29 ?_
  refine pb_isub C dX14_hasLine_30 ?_
  refine pb_iload_n C dX14_hasLine_31 rfl (lv_at hl 4 rfl) ?_
  refine pb_ic C dX14_hasLine_32 ?_
  refine pb_isub C dX14_hasLine_33 ?_
  refine pb_go_x (bc' := 0) (bs' := 0) (pb_runV (rest := []) C hG ((by have h9 := met_X12_contains l c P g hQ ((((x : Nat) : Int) - 1)) ((((y : Nat) : Int) - 1)) (by omega) (by omega); rw [gcI_gc hg] at h9; exact h9)) hQo (ci := 11) rfl (lw_V q1237 q1034 q1035 q82 q1036) ⟨rfl, hdX12_contains⟩ rfl hl.1 rfl (Nat.le_of_ble_eq_true rfl) ⟨(Nat.le_of_ble_eq_true rfl), (Nat.le_of_ble_eq_true rfl)⟩ dX14_hasLine_34) (by omega) (by omega) ?_
  refine pb_istore C dX14_hasLine_37 hl (by decide) rfl fun ls hl => ?_
  have hl : lv_has ls 8 [(6, .int (iZ ((bI ((gc g ((((x : Nat) : Int) - 1)) ((((y : Nat) : Int) - 1)))))))), (5, .int (iZ ((bI ((gc g ((((x : Nat) : Int) - 1)) (((y : Nat) : Int)))))))), (4, .int (iZ ((bI ((gc g (((x : Nat) : Int)) (((y : Nat) : Int)))))))), (0, .ref (t)), (1, .int (iZ (((x : Nat) : Int)))), (2, .int (iZ (((y : Nat) : Int)))), (3, .int (iZ (3)))] := hl
  refine pb_aload_n C dX14_hasLine_39 rfl (lv_at hl 3 rfl) ?_
  refine pb_get C in_X14 hT (ci := 12) rfl 0 (by decide) q1305 (fun _ h9 => h9) (v := .ref (c)) rfl dX14_hasLine_40 ?_
  refine pb_iload_n C dX14_hasLine_43 rfl (lv_at hl 4 rfl) ?_
  refine pb_iload_n C dX14_hasLine_44 rfl (lv_at hl 5 rfl) ?_
  refine pb_ic C dX14_hasLine_45 ?_
  refine pb_isub C dX14_hasLine_46 ?_
  refine pb_go_x (bc' := 0) (bs' := 0) (pb_runV (rest := []) C hG ((by have h9 := met_X12_contains l c P g hQ (((x : Nat) : Int)) ((((y : Nat) : Int) - 1)) (by omega) (by omega); rw [gcI_gc hg] at h9; exact h9)) hQo (ci := 11) rfl (lw_V q1237 q1034 q1035 q82 q1036) ⟨rfl, hdX12_contains⟩ rfl hl.1 rfl (Nat.le_of_ble_eq_true rfl) ⟨(Nat.le_of_ble_eq_true rfl), (Nat.le_of_ble_eq_true rfl)⟩ dX14_hasLine_47) (by omega) (by omega) ?_
  refine pb_istore C dX14_hasLine_50 hl (by decide) rfl fun ls hl => ?_
  have hl : lv_has ls 8 [(7, .int (iZ ((bI ((gc g (((x : Nat) : Int)) ((((y : Nat) : Int) - 1)))))))), (6, .int (iZ ((bI ((gc g ((((x : Nat) : Int) - 1)) ((((y : Nat) : Int) - 1)))))))), (5, .int (iZ ((bI ((gc g ((((x : Nat) : Int) - 1)) (((y : Nat) : Int)))))))), (4, .int (iZ ((bI ((gc g (((x : Nat) : Int)) (((y : Nat) : Int)))))))), (0, .ref (t)), (1, .int (iZ (((x : Nat) : Int)))), (2, .int (iZ (((y : Nat) : Int)))), (3, .int (iZ (3)))] := hl
  refine pb_iload_n C dX14_hasLine_52 rfl (lv_at hl 7 rfl) ?_
  refine pb_tswO C (x := 3) (tgt := 134) dX14_hasLine_53 (by decide) (by decide) (by decide) ?_
  refine pb_iload C dX14_hasLine_134 (lv_at hl 0 rfl) ?_
  refine pb_ifB_eq C dX14_hasLine_136 (tgt := 148) (by decide) (fun c136_ => ?_) (fun c136_ => ?_)
  · refine pb_ic C dX14_hasLine_148 ?_
    exact pb_zret C dX14_hasLine_149 (by decide +kernel) (⟨by rw [show ldr g ((x : Nat) : Int) ((y : Nat) : Int) 3 = false from by show (gc g ((x : Nat) : Int) (((y : Nat) : Int) - 1) && !gc g (((x : Nat) : Int) - 1) (((y : Nat) : Int) - 1)) = false; rw [c136_]; rfl]; rfl, rfl⟩)
  · refine pb_iload C dX14_hasLine_139 (lv_at hl 1 rfl) ?_
    refine pb_ifB_ne C dX14_hasLine_141 (tgt := 148) (by decide) (fun c141_ => ?_) (fun c141_ => ?_)
    · refine pb_ic C dX14_hasLine_148 ?_
      exact pb_zret C dX14_hasLine_149 (by decide +kernel) (⟨by rw [show ldr g ((x : Nat) : Int) ((y : Nat) : Int) 3 = false from by show (gc g ((x : Nat) : Int) (((y : Nat) : Int) - 1) && !gc g (((x : Nat) : Int) - 1) (((y : Nat) : Int) - 1)) = false; rw [c136_, c141_]; rfl]; rfl, rfl⟩)
    · refine pb_ic C dX14_hasLine_144 ?_
      refine pb_goto C dX14_hasLine_145 (tgt := 149) (by decide) ?_
      exact pb_zret C dX14_hasLine_149 (by decide +kernel) (⟨by rw [show ldr g ((x : Nat) : Int) ((y : Nat) : Int) 3 = true from by show (gc g ((x : Nat) : Int) (((y : Nat) : Int) - 1) && !gc g (((x : Nat) : Int) - 1) (((y : Nat) : Int) - 1)) = true; rw [c136_, c141_]; rfl]; rfl, rfl⟩)

theorem met_X14_hasLine {w : pb_W} (l : Launch) {H : Heap} (t c u ol : Nat) (P : Nat → Prop) (g : Nat → Nat) (hT : pb_R w H t 12 [.ref c, .ref u, .ref ol]) (hQ : Cq w H P c g) (hg : gok g) (x y : Nat) (hx : x ≤ 24) (hy : y ≤ 24) (a : Nat) (ha : a < 4) : pb_M w l yX14_hasLine cX14_hasLine 8 (some .boolean) 3 (0) (0) [.ref (t), .int (iZ (((x : Nat) : Int))), .int (iZ (((y : Nat) : Int))), .int (iZ (((a : Nat) : Int)))] H (pb_qx (.int (iZ (bI (ldr g ((x : Nat) : Int) ((y : Nat) : Int) a)))) H) := by
  match a, ha with
  | 0, _ => exact met_X14_hasLine_0 l t c u ol P g hT hQ hg x y hx hy
  | 1, _ => exact met_X14_hasLine_1 l t c u ol P g hT hQ hg x y hx hy
  | 2, _ => exact met_X14_hasLine_2 l t c u ol P g hT hQ hg x y hx hy
  | 3, _ => exact met_X14_hasLine_3 l t c u ol P g hT hQ hg x y hx hy

set_option maxHeartbeats 1000000 in
theorem met_X14_nextDirection {w : pb_W} (l : Launch) {H : Heap} (t c u ol : Nat) (P : Nat → Prop) (g : Nat → Nat) (hT : pb_R w H t 12 [.ref c, .ref u, .ref ol]) (hQ : Cq w H P c g) (hg : gok g) (x y : Nat) (hx : x ≤ 24) (hy : y ≤ 24) (a : Nat) (ha : a < 4) : pb_M w l yX14_nextDirection cX14_nextDirection 6 (some .int) 4 (0) (0) [.ref (t), .int (iZ (((x : Nat) : Int))), .int (iZ (((y : Nat) : Int))), .int (iZ (((a : Nat) : Int)))] H (pb_qx (.int (iZ ((nxw g x y a : Nat) : Int))) H) := by
  refine pb_of (by decide +kernel) (Nat.le_of_ble_eq_true rfl) ?_
  intro p_ e_ s_ m_ ar_ bl_ me_ co_ ls C hh hG hl
  have hl : lv_has ls 6 [(0, .ref (t)), (1, .int (iZ (((x : Nat) : Int)))), (2, .int (iZ (((y : Nat) : Int)))), (3, .int (iZ (((a : Nat) : Int))))] := hl
  refine pb_ic C dX14_nextDirection_0 ?_
  refine pb_istore C dX14_nextDirection_1 hl (by decide) rfl fun ls hl => ?_
  have hl : lv_has ls 6 [(4, .int (iZ (1))), (0, .ref (t)), (1, .int (iZ (((x : Nat) : Int)))), (2, .int (iZ (((y : Nat) : Int)))), (3, .int (iZ (((a : Nat) : Int))))] := hl
  refine pb_iload C dX14_nextDirection_3 (lv_at hl 0 rfl) ?_
  refine pb_if_lt C dX14_nextDirection_5 (x := 1) (tgt := 36) (by decide) (by omega) (fun c5_ => ?_) (fun c5_ => ?_)
  · exact absurd c5_ (by decide)
  · refine pb_iload_n C dX14_nextDirection_8 rfl (lv_at hl 4 rfl) ?_
    refine pb_iload C dX14_nextDirection_9 (lv_at hl 0 rfl) ?_
    refine pb_iadd C dX14_nextDirection_11 ?_
    refine pb_ic C dX14_nextDirection_12 ?_
    refine pb_irem C dX14_nextDirection_13 (x := (((a + 1) : Nat) : Int)) (y := 4) (by omega) (by omega) (by omega) ?_
    refine pb_istore C dX14_nextDirection_14 hl (by decide) rfl fun ls hl => ?_
    have hl : lv_has ls 6 [(5, .int (iZ (((((a + 1) % 4) : Nat) : Int)))), (4, .int (iZ (1))), (0, .ref (t)), (1, .int (iZ (((x : Nat) : Int)))), (2, .int (iZ (((y : Nat) : Int)))), (3, .int (iZ (((a : Nat) : Int))))] := hl
    refine pb_aload_n C dX14_nextDirection_16 rfl (lv_at hl 2 rfl) ?_
    refine pb_iload_n C dX14_nextDirection_17 rfl (lv_at hl 3 rfl) ?_
    refine pb_iload_n C dX14_nextDirection_18 rfl (lv_at hl 4 rfl) ?_
    refine pb_iload C dX14_nextDirection_19 (lv_at hl 0 rfl) ?_
    refine pb_go_x (bc' := 0) (bs' := 0) (pb_runV (rest := []) C hG (met_X14_hasLine l t c u ol P g hT hQ hg x y hx hy (((a + 1) % 4)) (by omega)) hT (ci := 12) rfl (lw_V q1233 q1235 qs15 q86 q1236) ⟨rfl, hdX14_hasLine⟩ rfl hl.1 rfl (Nat.le_of_ble_eq_true rfl) ⟨(Nat.le_of_ble_eq_true rfl), (Nat.le_of_ble_eq_true rfl)⟩ dX14_nextDirection_21) (by omega) (by omega) ?_
    refine pb_ifB_eq C dX14_nextDirection_24 (tgt := 30) (by decide) (fun c24_ => ?_) (fun c24_ => ?_)
    · have hb1 := c24_
      refine pb_iinc C dX14_nextDirection_30 hl (j := 1) (x := 1) rfl (by decide) rfl fun ls hl => ?_
      have hl : lv_has ls 6 [(4, .int (iZ (0))), (5, .int (iZ (((((a + 1) % 4) : Nat) : Int)))), (0, .ref (t)), (1, .int (iZ (((x : Nat) : Int)))), (2, .int (iZ (((y : Nat) : Int)))), (3, .int (iZ (((a : Nat) : Int))))] := hl
      refine pb_goto C dX14_nextDirection_33 (tgt := 3) (by decide) ?_
      refine pb_iload C dX14_nextDirection_3 (lv_at hl 0 rfl) ?_
      refine pb_if_lt C dX14_nextDirection_5 (x := 0) (tgt := 36) (by decide) (by omega) (fun c5_ => ?_) (fun c5_ => ?_)
      · exact absurd c5_ (by decide)
      · refine pb_iload_n C dX14_nextDirection_8 rfl (lv_at hl 5 rfl) ?_
        refine pb_iload C dX14_nextDirection_9 (lv_at hl 0 rfl) ?_
        refine pb_iadd C dX14_nextDirection_11 ?_
        refine pb_ic C dX14_nextDirection_12 ?_
        refine pb_irem C dX14_nextDirection_13 (x := (((a + 0) : Nat) : Int)) (y := 4) (by omega) (by omega) (by omega) ?_
        refine pb_istore C dX14_nextDirection_14 hl (by decide) rfl fun ls hl => ?_
        have hl : lv_has ls 6 [(5, .int (iZ (((((a + 0) % 4) : Nat) : Int)))), (4, .int (iZ (0))), (0, .ref (t)), (1, .int (iZ (((x : Nat) : Int)))), (2, .int (iZ (((y : Nat) : Int)))), (3, .int (iZ (((a : Nat) : Int))))] := hl
        refine pb_aload_n C dX14_nextDirection_16 rfl (lv_at hl 2 rfl) ?_
        refine pb_iload_n C dX14_nextDirection_17 rfl (lv_at hl 3 rfl) ?_
        refine pb_iload_n C dX14_nextDirection_18 rfl (lv_at hl 4 rfl) ?_
        refine pb_iload C dX14_nextDirection_19 (lv_at hl 0 rfl) ?_
        refine pb_go_x (bc' := 0) (bs' := 0) (pb_runV (rest := []) C hG (met_X14_hasLine l t c u ol P g hT hQ hg x y hx hy (((a + 0) % 4)) (by omega)) hT (ci := 12) rfl (lw_V q1233 q1235 qs15 q86 q1236) ⟨rfl, hdX14_hasLine⟩ rfl hl.1 rfl (Nat.le_of_ble_eq_true rfl) ⟨(Nat.le_of_ble_eq_true rfl), (Nat.le_of_ble_eq_true rfl)⟩ dX14_nextDirection_21) (by omega) (by omega) ?_
        refine pb_ifB_eq C dX14_nextDirection_24 (tgt := 30) (by decide) (fun c24_ => ?_) (fun c24_ => ?_)
        · have hb2 := c24_
          rw [show (a + 0) % 4 = a from by omega] at hb2
          refine pb_iinc C dX14_nextDirection_30 hl (j := 1) (x := 0) rfl (by decide) rfl fun ls hl => ?_
          have hl : lv_has ls 6 [(4, .int (iZ ((-1)))), (5, .int (iZ (((((a + 0) % 4) : Nat) : Int)))), (0, .ref (t)), (1, .int (iZ (((x : Nat) : Int)))), (2, .int (iZ (((y : Nat) : Int)))), (3, .int (iZ (((a : Nat) : Int))))] := hl
          refine pb_goto C dX14_nextDirection_33 (tgt := 3) (by decide) ?_
          refine pb_iload C dX14_nextDirection_3 (lv_at hl 0 rfl) ?_
          refine pb_if_lt C dX14_nextDirection_5 (x := (-1)) (tgt := 36) (by decide) (by omega) (fun c5_ => ?_) (fun c5_ => ?_)
          · refine pb_iload_n C dX14_nextDirection_36 rfl (lv_at hl 5 rfl) ?_
            refine pb_ic C dX14_nextDirection_37 ?_
            refine pb_iadd C dX14_nextDirection_38 ?_
            refine pb_ic C dX14_nextDirection_39 ?_
            refine pb_isub C dX14_nextDirection_40 ?_
            refine pb_eq (g2 := F0 m_ 41 ls [.int (iZ ((((a + 3) : Nat) : Int)))]) (congrArg (fun z9 => F0 m_ 41 ls [.int (iZ z9)]) (show ((((a + 4) : Nat) : Int) - 1) = (((a + 3) : Nat) : Int) from (by omega))) ?_
            refine pb_ic C dX14_nextDirection_41 ?_
            refine pb_irem C dX14_nextDirection_42 (x := (((a + 3) : Nat) : Int)) (y := 4) (by omega) (by omega) (by omega) ?_
            exact pb_iret C dX14_nextDirection_43 (⟨by rw [show nxw g x y a = (a + 3) % 4 from by unfold nxw; rw [if_neg (by rw [hb1]; exact Bool.false_ne_true), if_neg (by rw [hb2]; exact Bool.false_ne_true)]]; rfl, rfl⟩)
          · exact absurd c5_ (by decide)
        · have hb2 := c24_
          rw [show (a + 0) % 4 = a from by omega] at hb2
          refine pb_iload C dX14_nextDirection_27 (lv_at hl 0 rfl) ?_
          exact pb_iret C dX14_nextDirection_29 (⟨by rw [show nxw g x y a = (a + 0) % 4 from by rw [show (a + 0) % 4 = a from by omega]; unfold nxw; rw [if_neg (by rw [hb1]; exact Bool.false_ne_true), if_pos hb2]], rfl⟩)
    · have hb1 := c24_
      refine pb_iload C dX14_nextDirection_27 (lv_at hl 0 rfl) ?_
      exact pb_iret C dX14_nextDirection_29 (⟨by rw [show nxw g x y a = (a + 1) % 4 from by unfold nxw; rw [if_pos hb1]], rfl⟩)

