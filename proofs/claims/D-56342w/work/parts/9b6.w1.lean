set_option maxRecDepth 100000
set_option maxHeartbeats 1000000 in
theorem met_X0_fill {w : pb_W} (l : Launch) {H : Heap} (b oL : Nat) (fs : List Value) (hBo : pb_R w H b 0 fs) (a1 : Int) (a2 : Int) (a3 : Int) (a4 : Int) (a5 : Int) (dd mc ms : Nat) (post : Int → Heap → Prop) (g0 : Nat → Value) (hd : dd ≤ 14) (hM : pb_M w l yX1_fill cX1_fill 6 (some .int) dd mc ms [.ref b, .int (iZ a1), .int (iZ a2), .int (iZ a3), .int (iZ a4), .int (iZ a5)] H (pb_qi post)) (hk : ∀ z H1, post z H1 → pb_F (fun q => q < w.2.2.2) H H1 ∧ H1[oL]? = H[oL]? ∧ -2147483648 ≤ z ∧ z ≤ 2147483647) (hA : pb_A w H oL 2 1 g0) (hz : w.2.2.2 ≤ oL) : pb_MW w l yX0_fill cX0_fill 8 (some .int) [(0, 16, 19, 13), (0, 16, 23, 15)] 15 (mc) (ms) [.ref (b), .int (iZ (a1)), .int (iZ (a2)), .int (iZ (a3)), .int (iZ (a4)), .int (iZ (a5)), .ref (oL)] H (pb_qi (fun k H2 => k = 0 ∧ ∃ z H1 g, post z H1 ∧ pb_A w H2 oL 2 1 (updV g 0 (.long (lZ z))) ∧ pb_Up oL H1 H2)) := by
  refine pb_ofWH (by decide +kernel) (Nat.le_of_ble_eq_true rfl) ?_
  intro p_ e_ s_ m_ ar_ bl_ me_ co_ ls C hh hG hl hT hN
  have hl : lv_has ls 8 [(0, .ref (b)), (1, .int (iZ (a1))), (2, .int (iZ (a2))), (3, .int (iZ (a3))), (4, .int (iZ (a4))), (5, .int (iZ (a5))), (6, .ref (oL))] := hl
  refine pb_aload C dX0_fill_0 (lv_at hl 6 rfl) ?_
  refine pb_ic C dX0_fill_2 ?_
  refine pb_aload_n C dX0_fill_3 rfl (lv_at hl 0 rfl) ?_
  refine pb_iload_n C dX0_fill_4 rfl (lv_at hl 1 rfl) ?_
  refine pb_iload_n C dX0_fill_5 rfl (lv_at hl 2 rfl) ?_
  refine pb_iload_n C dX0_fill_6 rfl (lv_at hl 3 rfl) ?_
  refine pb_iload C dX0_fill_7 (lv_at hl 4 rfl) ?_
  refine pb_iload C dX0_fill_9 (lv_at hl 5 rfl) ?_
  refine pb_go_i (bc' := mc - mc) (bs' := ms - ms) (pb_runV (rest := [.int (iZ (0)), .ref (oL)]) C hG (hM) hBo (ci := 0) rfl (lw_V q321 q322 q323 q51 q324) ⟨rfl, hdX1_fill⟩ rfl hl.1 rfl (Nat.le_of_ble_eq_true rfl) ⟨show dd + 1 ≤ 15 from by omega, show 8 + (6 + 11) + 64 * dd ≤ 64 * 15 from by omega⟩ dX0_fill_11) (by omega) (by omega) (fun z_ H1 hp_ => ?_)
  obtain ⟨hF1, ho1, hzr⟩ := hk _ _ hp_
  have hG := hG.kept hF1
  have hA := hA.kept ho1
  refine pb_i2l C dX0_fill_14 (x := z_) (by omega) ?_
  refine pb_last C hA (i := 0) (by omega) (by omega) dX0_fill_15 fun H1_ hu_ hA => ?_
  have hG := hG.kept (hu_.z (by omega))
  refine pb_goto C dX0_fill_16 (tgt := 27) (by decide) ?_
  refine pb_ic C dX0_fill_27 ?_
  exact pb_iret C dX0_fill_28 (⟨_, rfl, rfl, _, _, _, hp_, hA, hu_⟩)

set_option maxHeartbeats 1000000 in
theorem mex_X0_fill_1 {w : pb_W} (l : Launch) {H : Heap} (b oL : Nat) (fs : List Value) (hBo : pb_R w H b 0 fs) (a1 : Int) (a2 : Int) (a3 : Int) (a4 : Int) (a5 : Int) (dd mc ms : Nat) (hd : dd ≤ 14) (hM : pb_X w l yX1_fill cX1_fill 6 (some .int) dd mc ms [.ref b, .int (iZ a1), .int (iZ a2), .int (iZ a3), .int (iZ a4), .int (iZ a5)] H RJ9) : pb_MW w l yX0_fill cX0_fill 8 (some .int) [(0, 16, 19, 13), (0, 16, 23, 15)] 15 (mc) (ms) [.ref (b), .int (iZ (a1)), .int (iZ (a2)), .int (iZ (a3)), .int (iZ (a4)), .int (iZ (a5)), .ref (oL)] H (pb_qi (fun k H1 => k = 1 ∧ pb_F (fun _ => True) H H1)) := by
  refine pb_ofWH (by decide +kernel) (Nat.le_of_ble_eq_true rfl) ?_
  intro p_ e_ s_ m_ ar_ bl_ me_ co_ ls C hh hG hl hT hN
  have hl : lv_has ls 8 [(0, .ref (b)), (1, .int (iZ (a1))), (2, .int (iZ (a2))), (3, .int (iZ (a3))), (4, .int (iZ (a4))), (5, .int (iZ (a5))), (6, .ref (oL))] := hl
  refine pb_aload C dX0_fill_0 (lv_at hl 6 rfl) ?_
  refine pb_ic C dX0_fill_2 ?_
  refine pb_aload_n C dX0_fill_3 rfl (lv_at hl 0 rfl) ?_
  refine pb_iload_n C dX0_fill_4 rfl (lv_at hl 1 rfl) ?_
  refine pb_iload_n C dX0_fill_5 rfl (lv_at hl 2 rfl) ?_
  refine pb_iload_n C dX0_fill_6 rfl (lv_at hl 3 rfl) ?_
  refine pb_iload C dX0_fill_7 (lv_at hl 4 rfl) ?_
  refine pb_iload C dX0_fill_9 (lv_at hl 5 rfl) ?_
  refine pb_catch (bc' := mc - mc) (bs' := ms - ms) C (pb_runVX (rest := [.int (iZ (0)), .ref (oL)]) C hG (hM) hBo (ci := 0) rfl (lw_V q321 q322 q323 q51 q324) ⟨rfl, hdX1_fill⟩ rfl hl.1 rfl (Nat.le_of_ble_eq_true rfl) ⟨show dd + 1 ≤ 15 from by omega, show 8 + (6 + 11) + 64 * dd ≤ 64 * 15 from by omega⟩ dX0_fill_11) (by omega) (by omega) [] ⟨0, 16, 19, 13⟩ [⟨0, 16, 23, 15⟩] hT (fun z9 h9 => absurd h9 List.not_mem_nil) (by decide) (by decide) q241 q337 fun q9 H1 hF1 => ?_
  refine pb_astore C dX0_fill_19 hl (by decide) rfl fun ls hl => ?_
  have hl : lv_has ls 8 [(7, .ref (q9)), (0, .ref (b)), (1, .int (iZ (a1))), (2, .int (iZ (a2))), (3, .int (iZ (a3))), (4, .int (iZ (a4))), (5, .int (iZ (a5))), (6, .ref (oL))] := hl
  refine pb_ic C dX0_fill_21 ?_
  exact pb_iret C dX0_fill_22 (⟨_, rfl, rfl, hF1⟩)

set_option maxHeartbeats 1000000 in
theorem mex_X0_fill_2 {w : pb_W} (l : Launch) {H : Heap} (b oL : Nat) (fs : List Value) (hBo : pb_R w H b 0 fs) (a1 : Int) (a2 : Int) (a3 : Int) (a4 : Int) (a5 : Int) (dd mc ms : Nat) (hd : dd ≤ 14) (hM : pb_X w l yX1_fill cX1_fill 6 (some .int) dd mc ms [.ref b, .int (iZ a1), .int (iZ a2), .int (iZ a3), .int (iZ a4), .int (iZ a5)] H RJ14) : pb_MW w l yX0_fill cX0_fill 8 (some .int) [(0, 16, 19, 13), (0, 16, 23, 15)] 15 (mc) (ms) [.ref (b), .int (iZ (a1)), .int (iZ (a2)), .int (iZ (a3)), .int (iZ (a4)), .int (iZ (a5)), .ref (oL)] H (pb_qi (fun k H1 => k = 2 ∧ pb_F (fun _ => True) H H1)) := by
  refine pb_ofWH (by decide +kernel) (Nat.le_of_ble_eq_true rfl) ?_
  intro p_ e_ s_ m_ ar_ bl_ me_ co_ ls C hh hG hl hT hN
  have hl : lv_has ls 8 [(0, .ref (b)), (1, .int (iZ (a1))), (2, .int (iZ (a2))), (3, .int (iZ (a3))), (4, .int (iZ (a4))), (5, .int (iZ (a5))), (6, .ref (oL))] := hl
  refine pb_aload C dX0_fill_0 (lv_at hl 6 rfl) ?_
  refine pb_ic C dX0_fill_2 ?_
  refine pb_aload_n C dX0_fill_3 rfl (lv_at hl 0 rfl) ?_
  refine pb_iload_n C dX0_fill_4 rfl (lv_at hl 1 rfl) ?_
  refine pb_iload_n C dX0_fill_5 rfl (lv_at hl 2 rfl) ?_
  refine pb_iload_n C dX0_fill_6 rfl (lv_at hl 3 rfl) ?_
  refine pb_iload C dX0_fill_7 (lv_at hl 4 rfl) ?_
  refine pb_iload C dX0_fill_9 (lv_at hl 5 rfl) ?_
  refine pb_catch (bc' := mc - mc) (bs' := ms - ms) C (pb_runVX (rest := [.int (iZ (0)), .ref (oL)]) C hG (hM) hBo (ci := 0) rfl (lw_V q321 q322 q323 q51 q324) ⟨rfl, hdX1_fill⟩ rfl hl.1 rfl (Nat.le_of_ble_eq_true rfl) ⟨show dd + 1 ≤ 15 from by omega, show 8 + (6 + 11) + 64 * dd ≤ 64 * 15 from by omega⟩ dX0_fill_11) (by omega) (by omega) [⟨0, 16, 19, 13⟩] ⟨0, 16, 23, 15⟩ [] hT (List.forall_mem_cons.mpr ⟨⟨by decide, "java/lang/IndexOutOfBoundsException", q241, hN ("java/lang/IllegalArgumentException", "java/lang/IndexOutOfBoundsException") (by decide)⟩, (fun z9 h9 => absurd h9 List.not_mem_nil)⟩) (by decide) (by decide) q320 q386 fun q9 H1 hF1 => ?_
  refine pb_astore C dX0_fill_23 hl (by decide) rfl fun ls hl => ?_
  have hl : lv_has ls 8 [(7, .ref (q9)), (0, .ref (b)), (1, .int (iZ (a1))), (2, .int (iZ (a2))), (3, .int (iZ (a3))), (4, .int (iZ (a4))), (5, .int (iZ (a5))), (6, .ref (oL))] := hl
  refine pb_ic C dX0_fill_25 ?_
  exact pb_iret C dX0_fill_26 (⟨_, rfl, rfl, hF1⟩)

set_option maxHeartbeats 1000000 in
theorem met_X0_erase {w : pb_W} (l : Launch) {H : Heap} (b oL : Nat) (fs : List Value) (hBo : pb_R w H b 0 fs) (a1 : Int) (a2 : Int) (a3 : Int) (a4 : Int) (a5 : Int) (dd mc ms : Nat) (post : Int → Heap → Prop) (g0 : Nat → Value) (hd : dd ≤ 14) (hM : pb_M w l yX1_erase cX1_erase 6 (some .int) dd mc ms [.ref b, .int (iZ a1), .int (iZ a2), .int (iZ a3), .int (iZ a4), .int (iZ a5)] H (pb_qi post)) (hk : ∀ z H1, post z H1 → pb_F (fun q => q < w.2.2.2) H H1 ∧ H1[oL]? = H[oL]? ∧ -2147483648 ≤ z ∧ z ≤ 2147483647) (hA : pb_A w H oL 2 1 g0) (hz : w.2.2.2 ≤ oL) : pb_MW w l yX0_erase cX0_erase 8 (some .int) [(0, 16, 19, 13), (0, 16, 23, 15)] 15 (mc) (ms) [.ref (b), .int (iZ (a1)), .int (iZ (a2)), .int (iZ (a3)), .int (iZ (a4)), .int (iZ (a5)), .ref (oL)] H (pb_qi (fun k H2 => k = 0 ∧ ∃ z H1 g, post z H1 ∧ pb_A w H2 oL 2 1 (updV g 0 (.long (lZ z))) ∧ pb_Up oL H1 H2)) := by
  refine pb_ofWH (by decide +kernel) (Nat.le_of_ble_eq_true rfl) ?_
  intro p_ e_ s_ m_ ar_ bl_ me_ co_ ls C hh hG hl hT hN
  have hl : lv_has ls 8 [(0, .ref (b)), (1, .int (iZ (a1))), (2, .int (iZ (a2))), (3, .int (iZ (a3))), (4, .int (iZ (a4))), (5, .int (iZ (a5))), (6, .ref (oL))] := hl
  refine pb_aload C dX0_erase_0 (lv_at hl 6 rfl) ?_
  refine pb_ic C dX0_erase_2 ?_
  refine pb_aload_n C dX0_erase_3 rfl (lv_at hl 0 rfl) ?_
  refine pb_iload_n C dX0_erase_4 rfl (lv_at hl 1 rfl) ?_
  refine pb_iload_n C dX0_erase_5 rfl (lv_at hl 2 rfl) ?_
  refine pb_iload_n C dX0_erase_6 rfl (lv_at hl 3 rfl) ?_
  refine pb_iload C dX0_erase_7 (lv_at hl 4 rfl) ?_
  refine pb_iload C dX0_erase_9 (lv_at hl 5 rfl) ?_
  refine pb_go_i (bc' := mc - mc) (bs' := ms - ms) (pb_runV (rest := [.int (iZ (0)), .ref (oL)]) C hG (hM) hBo (ci := 0) rfl (lw_V q732 q733 q734 q51 q735) ⟨rfl, hdX1_erase⟩ rfl hl.1 rfl (Nat.le_of_ble_eq_true rfl) ⟨show dd + 1 ≤ 15 from by omega, show 8 + (6 + 11) + 64 * dd ≤ 64 * 15 from by omega⟩ dX0_erase_11) (by omega) (by omega) (fun z_ H1 hp_ => ?_)
  obtain ⟨hF1, ho1, hzr⟩ := hk _ _ hp_
  have hG := hG.kept hF1
  have hA := hA.kept ho1
  refine pb_i2l C dX0_erase_14 (x := z_) (by omega) ?_
  refine pb_last C hA (i := 0) (by omega) (by omega) dX0_erase_15 fun H1_ hu_ hA => ?_
  have hG := hG.kept (hu_.z (by omega))
  refine pb_goto C dX0_erase_16 (tgt := 27) (by decide) ?_
  refine pb_ic C dX0_erase_27 ?_
  exact pb_iret C dX0_erase_28 (⟨_, rfl, rfl, _, _, _, hp_, hA, hu_⟩)

set_option maxHeartbeats 1000000 in
theorem mex_X0_erase_1 {w : pb_W} (l : Launch) {H : Heap} (b oL : Nat) (fs : List Value) (hBo : pb_R w H b 0 fs) (a1 : Int) (a2 : Int) (a3 : Int) (a4 : Int) (a5 : Int) (dd mc ms : Nat) (hd : dd ≤ 14) (hM : pb_X w l yX1_erase cX1_erase 6 (some .int) dd mc ms [.ref b, .int (iZ a1), .int (iZ a2), .int (iZ a3), .int (iZ a4), .int (iZ a5)] H RJ9) : pb_MW w l yX0_erase cX0_erase 8 (some .int) [(0, 16, 19, 13), (0, 16, 23, 15)] 15 (mc) (ms) [.ref (b), .int (iZ (a1)), .int (iZ (a2)), .int (iZ (a3)), .int (iZ (a4)), .int (iZ (a5)), .ref (oL)] H (pb_qi (fun k H1 => k = 1 ∧ pb_F (fun _ => True) H H1)) := by
  refine pb_ofWH (by decide +kernel) (Nat.le_of_ble_eq_true rfl) ?_
  intro p_ e_ s_ m_ ar_ bl_ me_ co_ ls C hh hG hl hT hN
  have hl : lv_has ls 8 [(0, .ref (b)), (1, .int (iZ (a1))), (2, .int (iZ (a2))), (3, .int (iZ (a3))), (4, .int (iZ (a4))), (5, .int (iZ (a5))), (6, .ref (oL))] := hl
  refine pb_aload C dX0_erase_0 (lv_at hl 6 rfl) ?_
  refine pb_ic C dX0_erase_2 ?_
  refine pb_aload_n C dX0_erase_3 rfl (lv_at hl 0 rfl) ?_
  refine pb_iload_n C dX0_erase_4 rfl (lv_at hl 1 rfl) ?_
  refine pb_iload_n C dX0_erase_5 rfl (lv_at hl 2 rfl) ?_
  refine pb_iload_n C dX0_erase_6 rfl (lv_at hl 3 rfl) ?_
  refine pb_iload C dX0_erase_7 (lv_at hl 4 rfl) ?_
  refine pb_iload C dX0_erase_9 (lv_at hl 5 rfl) ?_
  refine pb_catch (bc' := mc - mc) (bs' := ms - ms) C (pb_runVX (rest := [.int (iZ (0)), .ref (oL)]) C hG (hM) hBo (ci := 0) rfl (lw_V q732 q733 q734 q51 q735) ⟨rfl, hdX1_erase⟩ rfl hl.1 rfl (Nat.le_of_ble_eq_true rfl) ⟨show dd + 1 ≤ 15 from by omega, show 8 + (6 + 11) + 64 * dd ≤ 64 * 15 from by omega⟩ dX0_erase_11) (by omega) (by omega) [] ⟨0, 16, 19, 13⟩ [⟨0, 16, 23, 15⟩] hT (fun z9 h9 => absurd h9 List.not_mem_nil) (by decide) (by decide) q241 q337 fun q9 H1 hF1 => ?_
  refine pb_astore C dX0_erase_19 hl (by decide) rfl fun ls hl => ?_
  have hl : lv_has ls 8 [(7, .ref (q9)), (0, .ref (b)), (1, .int (iZ (a1))), (2, .int (iZ (a2))), (3, .int (iZ (a3))), (4, .int (iZ (a4))), (5, .int (iZ (a5))), (6, .ref (oL))] := hl
  refine pb_ic C dX0_erase_21 ?_
  exact pb_iret C dX0_erase_22 (⟨_, rfl, rfl, hF1⟩)

set_option maxHeartbeats 1000000 in
theorem mex_X0_erase_2 {w : pb_W} (l : Launch) {H : Heap} (b oL : Nat) (fs : List Value) (hBo : pb_R w H b 0 fs) (a1 : Int) (a2 : Int) (a3 : Int) (a4 : Int) (a5 : Int) (dd mc ms : Nat) (hd : dd ≤ 14) (hM : pb_X w l yX1_erase cX1_erase 6 (some .int) dd mc ms [.ref b, .int (iZ a1), .int (iZ a2), .int (iZ a3), .int (iZ a4), .int (iZ a5)] H RJ14) : pb_MW w l yX0_erase cX0_erase 8 (some .int) [(0, 16, 19, 13), (0, 16, 23, 15)] 15 (mc) (ms) [.ref (b), .int (iZ (a1)), .int (iZ (a2)), .int (iZ (a3)), .int (iZ (a4)), .int (iZ (a5)), .ref (oL)] H (pb_qi (fun k H1 => k = 2 ∧ pb_F (fun _ => True) H H1)) := by
  refine pb_ofWH (by decide +kernel) (Nat.le_of_ble_eq_true rfl) ?_
  intro p_ e_ s_ m_ ar_ bl_ me_ co_ ls C hh hG hl hT hN
  have hl : lv_has ls 8 [(0, .ref (b)), (1, .int (iZ (a1))), (2, .int (iZ (a2))), (3, .int (iZ (a3))), (4, .int (iZ (a4))), (5, .int (iZ (a5))), (6, .ref (oL))] := hl
  refine pb_aload C dX0_erase_0 (lv_at hl 6 rfl) ?_
  refine pb_ic C dX0_erase_2 ?_
  refine pb_aload_n C dX0_erase_3 rfl (lv_at hl 0 rfl) ?_
  refine pb_iload_n C dX0_erase_4 rfl (lv_at hl 1 rfl) ?_
  refine pb_iload_n C dX0_erase_5 rfl (lv_at hl 2 rfl) ?_
  refine pb_iload_n C dX0_erase_6 rfl (lv_at hl 3 rfl) ?_
  refine pb_iload C dX0_erase_7 (lv_at hl 4 rfl) ?_
  refine pb_iload C dX0_erase_9 (lv_at hl 5 rfl) ?_
  refine pb_catch (bc' := mc - mc) (bs' := ms - ms) C (pb_runVX (rest := [.int (iZ (0)), .ref (oL)]) C hG (hM) hBo (ci := 0) rfl (lw_V q732 q733 q734 q51 q735) ⟨rfl, hdX1_erase⟩ rfl hl.1 rfl (Nat.le_of_ble_eq_true rfl) ⟨show dd + 1 ≤ 15 from by omega, show 8 + (6 + 11) + 64 * dd ≤ 64 * 15 from by omega⟩ dX0_erase_11) (by omega) (by omega) [⟨0, 16, 19, 13⟩] ⟨0, 16, 23, 15⟩ [] hT (List.forall_mem_cons.mpr ⟨⟨by decide, "java/lang/IndexOutOfBoundsException", q241, hN ("java/lang/IllegalArgumentException", "java/lang/IndexOutOfBoundsException") (by decide)⟩, (fun z9 h9 => absurd h9 List.not_mem_nil)⟩) (by decide) (by decide) q320 q386 fun q9 H1 hF1 => ?_
  refine pb_astore C dX0_erase_23 hl (by decide) rfl fun ls hl => ?_
  have hl : lv_has ls 8 [(7, .ref (q9)), (0, .ref (b)), (1, .int (iZ (a1))), (2, .int (iZ (a2))), (3, .int (iZ (a3))), (4, .int (iZ (a4))), (5, .int (iZ (a5))), (6, .ref (oL))] := hl
  refine pb_ic C dX0_erase_25 ?_
  exact pb_iret C dX0_erase_26 (⟨_, rfl, rfl, hF1⟩)

set_option maxHeartbeats 1000000 in
theorem met_X0_clear {w : pb_W} (l : Launch) {H : Heap} (b oL : Nat) (fs : List Value) (hBo : pb_R w H b 0 fs) (a1 : Int) (dd mc ms : Nat) (post : Int → Heap → Prop) (g0 : Nat → Value) (hd : dd ≤ 14) (hM : pb_M w l yX1_clear cX1_clear 3 (some .int) dd mc ms [.ref b, .int (iZ a1)] H (pb_qi post)) (hk : ∀ z H1, post z H1 → pb_F (fun q => q < w.2.2.2) H H1 ∧ H1[oL]? = H[oL]? ∧ -2147483648 ≤ z ∧ z ≤ 2147483647) (hA : pb_A w H oL 2 1 g0) (hz : w.2.2.2 ≤ oL) : pb_MW w l yX0_clear cX0_clear 4 (some .int) [(0, 9, 12, 13)] 15 (mc) (ms) [.ref (b), .int (iZ (a1)), .ref (oL)] H (pb_qi (fun k H2 => k = 0 ∧ ∃ z H1 g, post z H1 ∧ pb_A w H2 oL 2 1 (updV g 0 (.long (lZ z))) ∧ pb_Up oL H1 H2)) := by
  refine pb_ofWH (by decide +kernel) (Nat.le_of_ble_eq_true rfl) ?_
  intro p_ e_ s_ m_ ar_ bl_ me_ co_ ls C hh hG hl hT hN
  have hl : lv_has ls 4 [(0, .ref (b)), (1, .int (iZ (a1))), (2, .ref (oL))] := hl
  refine pb_aload_n C dX0_clear_0 rfl (lv_at hl 2 rfl) ?_
  refine pb_ic C dX0_clear_1 ?_
  refine pb_aload_n C dX0_clear_2 rfl (lv_at hl 0 rfl) ?_
  refine pb_iload_n C dX0_clear_3 rfl (lv_at hl 1 rfl) ?_
  refine pb_go_i (bc' := mc - mc) (bs' := ms - ms) (pb_runV (rest := [.int (iZ (0)), .ref (oL)]) C hG (hM) hBo (ci := 0) rfl (lw_V q741 q742 q743 q51 q744) ⟨rfl, hdX1_clear⟩ rfl hl.1 rfl (Nat.le_of_ble_eq_true rfl) ⟨show dd + 1 ≤ 15 from by omega, show 8 + (3 + 11) + 64 * dd ≤ 64 * 15 from by omega⟩ dX0_clear_4) (by omega) (by omega) (fun z_ H1 hp_ => ?_)
  obtain ⟨hF1, ho1, hzr⟩ := hk _ _ hp_
  have hG := hG.kept hF1
  have hA := hA.kept ho1
  refine pb_i2l C dX0_clear_7 (x := z_) (by omega) ?_
  refine pb_last C hA (i := 0) (by omega) (by omega) dX0_clear_8 fun H1_ hu_ hA => ?_
  have hG := hG.kept (hu_.z (by omega))
  refine pb_goto C dX0_clear_9 (tgt := 15) (by decide) ?_
  refine pb_ic C dX0_clear_15 ?_
  exact pb_iret C dX0_clear_16 (⟨_, rfl, rfl, _, _, _, hp_, hA, hu_⟩)

set_option maxHeartbeats 1000000 in
theorem mex_X0_clear_1 {w : pb_W} (l : Launch) {H : Heap} (b oL : Nat) (fs : List Value) (hBo : pb_R w H b 0 fs) (a1 : Int) (dd mc ms : Nat) (hd : dd ≤ 14) (hM : pb_X w l yX1_clear cX1_clear 3 (some .int) dd mc ms [.ref b, .int (iZ a1)] H RJ9) : pb_MW w l yX0_clear cX0_clear 4 (some .int) [(0, 9, 12, 13)] 15 (mc) (ms) [.ref (b), .int (iZ (a1)), .ref (oL)] H (pb_qi (fun k H1 => k = 1 ∧ pb_F (fun _ => True) H H1)) := by
  refine pb_ofWH (by decide +kernel) (Nat.le_of_ble_eq_true rfl) ?_
  intro p_ e_ s_ m_ ar_ bl_ me_ co_ ls C hh hG hl hT hN
  have hl : lv_has ls 4 [(0, .ref (b)), (1, .int (iZ (a1))), (2, .ref (oL))] := hl
  refine pb_aload_n C dX0_clear_0 rfl (lv_at hl 2 rfl) ?_
  refine pb_ic C dX0_clear_1 ?_
  refine pb_aload_n C dX0_clear_2 rfl (lv_at hl 0 rfl) ?_
  refine pb_iload_n C dX0_clear_3 rfl (lv_at hl 1 rfl) ?_
  refine pb_catch (bc' := mc - mc) (bs' := ms - ms) C (pb_runVX (rest := [.int (iZ (0)), .ref (oL)]) C hG (hM) hBo (ci := 0) rfl (lw_V q741 q742 q743 q51 q744) ⟨rfl, hdX1_clear⟩ rfl hl.1 rfl (Nat.le_of_ble_eq_true rfl) ⟨show dd + 1 ≤ 15 from by omega, show 8 + (3 + 11) + 64 * dd ≤ 64 * 15 from by omega⟩ dX0_clear_4) (by omega) (by omega) [] ⟨0, 9, 12, 13⟩ [] hT (fun z9 h9 => absurd h9 List.not_mem_nil) (by decide) (by decide) q241 q337 fun q9 H1 hF1 => ?_
  refine pb_astore_n C dX0_clear_12 rfl hl (by decide) rfl fun ls hl => ?_
  have hl : lv_has ls 4 [(3, .ref (q9)), (0, .ref (b)), (1, .int (iZ (a1))), (2, .ref (oL))] := hl
  refine pb_ic C dX0_clear_13 ?_
  exact pb_iret C dX0_clear_14 (⟨_, rfl, rfl, hF1⟩)

set_option maxHeartbeats 1000000 in
theorem met_X0_moveTo {w : pb_W} (l : Launch) {H : Heap} (b oL : Nat) (fs : List Value) (hBo : pb_R w H b 0 fs) (a1 : Int) (a2 : Int) (dd mc ms : Nat) (post : Int → Heap → Prop) (g0 : Nat → Value) (hd : dd ≤ 14) (hM : pb_M w l yX1_moveTo cX1_moveTo 3 (some .int) dd mc ms [.ref b, .int (iZ a1), .int (iZ a2)] H (pb_qi post)) (hk : ∀ z H1, post z H1 → pb_F (fun q => q < w.2.2.2) H H1 ∧ H1[oL]? = H[oL]? ∧ -2147483648 ≤ z ∧ z ≤ 2147483647) (hA : pb_A w H oL 2 1 g0) (hz : w.2.2.2 ≤ oL) : pb_MW w l yX0_moveTo cX0_moveTo 5 (some .int) [(0, 10, 13, 15)] 15 (mc) (ms) [.ref (b), .int (iZ (a1)), .int (iZ (a2)), .ref (oL)] H (pb_qi (fun k H2 => k = 0 ∧ ∃ z H1 g, post z H1 ∧ pb_A w H2 oL 2 1 (updV g 0 (.long (lZ z))) ∧ pb_Up oL H1 H2)) := by
  refine pb_ofWH (by decide +kernel) (Nat.le_of_ble_eq_true rfl) ?_
  intro p_ e_ s_ m_ ar_ bl_ me_ co_ ls C hh hG hl hT hN
  have hl : lv_has ls 5 [(0, .ref (b)), (1, .int (iZ (a1))), (2, .int (iZ (a2))), (3, .ref (oL))] := hl
  refine pb_aload_n C dX0_moveTo_0 rfl (lv_at hl 3 rfl) ?_
  refine pb_ic C dX0_moveTo_1 ?_
  refine pb_aload_n C dX0_moveTo_2 rfl (lv_at hl 0 rfl) ?_
  refine pb_iload_n C dX0_moveTo_3 rfl (lv_at hl 1 rfl) ?_
  refine pb_iload_n C dX0_moveTo_4 rfl (lv_at hl 2 rfl) ?_
  refine pb_go_i (bc' := mc - mc) (bs' := ms - ms) (pb_runV (rest := [.int (iZ (0)), .ref (oL)]) C hG (hM) hBo (ci := 0) rfl (lw_V q748 q749 q750 q51 q751) ⟨rfl, hdX1_moveTo⟩ rfl hl.1 rfl (Nat.le_of_ble_eq_true rfl) ⟨show dd + 1 ≤ 15 from by omega, show 8 + (3 + 11) + 64 * dd ≤ 64 * 15 from by omega⟩ dX0_moveTo_5) (by omega) (by omega) (fun z_ H1 hp_ => ?_)
  obtain ⟨hF1, ho1, hzr⟩ := hk _ _ hp_
  have hG := hG.kept hF1
  have hA := hA.kept ho1
  refine pb_i2l C dX0_moveTo_8 (x := z_) (by omega) ?_
  refine pb_last C hA (i := 0) (by omega) (by omega) dX0_moveTo_9 fun H1_ hu_ hA => ?_
  have hG := hG.kept (hu_.z (by omega))
  refine pb_goto C dX0_moveTo_10 (tgt := 17) (by decide) ?_
  refine pb_ic C dX0_moveTo_17 ?_
  exact pb_iret C dX0_moveTo_18 (⟨_, rfl, rfl, _, _, _, hp_, hA, hu_⟩)

set_option maxHeartbeats 1000000 in
theorem mex_X0_moveTo_1 {w : pb_W} (l : Launch) {H : Heap} (b oL : Nat) (fs : List Value) (hBo : pb_R w H b 0 fs) (a1 : Int) (a2 : Int) (dd mc ms : Nat) (hd : dd ≤ 14) (hM : pb_X w l yX1_moveTo cX1_moveTo 3 (some .int) dd mc ms [.ref b, .int (iZ a1), .int (iZ a2)] H RJ14) : pb_MW w l yX0_moveTo cX0_moveTo 5 (some .int) [(0, 10, 13, 15)] 15 (mc) (ms) [.ref (b), .int (iZ (a1)), .int (iZ (a2)), .ref (oL)] H (pb_qi (fun k H1 => k = 1 ∧ pb_F (fun _ => True) H H1)) := by
  refine pb_ofWH (by decide +kernel) (Nat.le_of_ble_eq_true rfl) ?_
  intro p_ e_ s_ m_ ar_ bl_ me_ co_ ls C hh hG hl hT hN
  have hl : lv_has ls 5 [(0, .ref (b)), (1, .int (iZ (a1))), (2, .int (iZ (a2))), (3, .ref (oL))] := hl
  refine pb_aload_n C dX0_moveTo_0 rfl (lv_at hl 3 rfl) ?_
  refine pb_ic C dX0_moveTo_1 ?_
  refine pb_aload_n C dX0_moveTo_2 rfl (lv_at hl 0 rfl) ?_
  refine pb_iload_n C dX0_moveTo_3 rfl (lv_at hl 1 rfl) ?_
  refine pb_iload_n C dX0_moveTo_4 rfl (lv_at hl 2 rfl) ?_
  refine pb_catch (bc' := mc - mc) (bs' := ms - ms) C (pb_runVX (rest := [.int (iZ (0)), .ref (oL)]) C hG (hM) hBo (ci := 0) rfl (lw_V q748 q749 q750 q51 q751) ⟨rfl, hdX1_moveTo⟩ rfl hl.1 rfl (Nat.le_of_ble_eq_true rfl) ⟨show dd + 1 ≤ 15 from by omega, show 8 + (3 + 11) + 64 * dd ≤ 64 * 15 from by omega⟩ dX0_moveTo_5) (by omega) (by omega) [] ⟨0, 10, 13, 15⟩ [] hT (fun z9 h9 => absurd h9 List.not_mem_nil) (by decide) (by decide) q320 q386 fun q9 H1 hF1 => ?_
  refine pb_astore C dX0_moveTo_13 hl (by decide) rfl fun ls hl => ?_
  have hl : lv_has ls 5 [(4, .ref (q9)), (0, .ref (b)), (1, .int (iZ (a1))), (2, .int (iZ (a2))), (3, .ref (oL))] := hl
  refine pb_ic C dX0_moveTo_15 ?_
  exact pb_iret C dX0_moveTo_16 (⟨_, rfl, rfl, hF1⟩)

set_option maxHeartbeats 1000000 in
theorem met_X0_lineTo {w : pb_W} (l : Launch) {H : Heap} (b oL : Nat) (fs : List Value) (hBo : pb_R w H b 0 fs) (a1 : Int) (a2 : Int) (dd mc ms : Nat) (post : Int → Heap → Prop) (g0 : Nat → Value) (hd : dd ≤ 14) (hM : pb_M w l yX1_lineTo cX1_lineTo 3 (some .int) dd mc ms [.ref b, .int (iZ a1), .int (iZ a2)] H (pb_qi post)) (hk : ∀ z H1, post z H1 → pb_F (fun q => q < w.2.2.2) H H1 ∧ H1[oL]? = H[oL]? ∧ -2147483648 ≤ z ∧ z ≤ 2147483647) (hA : pb_A w H oL 2 1 g0) (hz : w.2.2.2 ≤ oL) : pb_MW w l yX0_lineTo cX0_lineTo 5 (some .int) [(0, 10, 13, 31), (0, 10, 17, 15)] 15 (mc) (ms) [.ref (b), .int (iZ (a1)), .int (iZ (a2)), .ref (oL)] H (pb_qi (fun k H2 => k = 0 ∧ ∃ z H1 g, post z H1 ∧ pb_A w H2 oL 2 1 (updV g 0 (.long (lZ z))) ∧ pb_Up oL H1 H2)) := by
  refine pb_ofWH (by decide +kernel) (Nat.le_of_ble_eq_true rfl) ?_
  intro p_ e_ s_ m_ ar_ bl_ me_ co_ ls C hh hG hl hT hN
  have hl : lv_has ls 5 [(0, .ref (b)), (1, .int (iZ (a1))), (2, .int (iZ (a2))), (3, .ref (oL))] := hl
  refine pb_aload_n C dX0_lineTo_0 rfl (lv_at hl 3 rfl) ?_
  refine pb_ic C dX0_lineTo_1 ?_
  refine pb_aload_n C dX0_lineTo_2 rfl (lv_at hl 0 rfl) ?_
  refine pb_iload_n C dX0_lineTo_3 rfl (lv_at hl 1 rfl) ?_
  refine pb_iload_n C dX0_lineTo_4 rfl (lv_at hl 2 rfl) ?_
  refine pb_go_i (bc' := mc - mc) (bs' := ms - ms) (pb_runV (rest := [.int (iZ (0)), .ref (oL)]) C hG (hM) hBo (ci := 0) rfl (lw_V q777 q778 q779 q51 q780) ⟨rfl, hdX1_lineTo⟩ rfl hl.1 rfl (Nat.le_of_ble_eq_true rfl) ⟨show dd + 1 ≤ 15 from by omega, show 8 + (3 + 11) + 64 * dd ≤ 64 * 15 from by omega⟩ dX0_lineTo_5) (by omega) (by omega) (fun z_ H1 hp_ => ?_)
  obtain ⟨hF1, ho1, hzr⟩ := hk _ _ hp_
  have hG := hG.kept hF1
  have hA := hA.kept ho1
  refine pb_i2l C dX0_lineTo_8 (x := z_) (by omega) ?_
  refine pb_last C hA (i := 0) (by omega) (by omega) dX0_lineTo_9 fun H1_ hu_ hA => ?_
  have hG := hG.kept (hu_.z (by omega))
  refine pb_goto C dX0_lineTo_10 (tgt := 21) (by decide) ?_
  refine pb_ic C dX0_lineTo_21 ?_
  exact pb_iret C dX0_lineTo_22 (⟨_, rfl, rfl, _, _, _, hp_, hA, hu_⟩)

set_option maxHeartbeats 1000000 in
theorem mex_X0_lineTo_1 {w : pb_W} (l : Launch) {H : Heap} (b oL : Nat) (fs : List Value) (hBo : pb_R w H b 0 fs) (a1 : Int) (a2 : Int) (dd mc ms : Nat) (hd : dd ≤ 14) (hM : pb_X w l yX1_lineTo cX1_lineTo 3 (some .int) dd mc ms [.ref b, .int (iZ a1), .int (iZ a2)] H RJ17) : pb_MW w l yX0_lineTo cX0_lineTo 5 (some .int) [(0, 10, 13, 31), (0, 10, 17, 15)] 15 (mc) (ms) [.ref (b), .int (iZ (a1)), .int (iZ (a2)), .ref (oL)] H (pb_qi (fun k H1 => k = 1 ∧ pb_F (fun _ => True) H H1)) := by
  refine pb_ofWH (by decide +kernel) (Nat.le_of_ble_eq_true rfl) ?_
  intro p_ e_ s_ m_ ar_ bl_ me_ co_ ls C hh hG hl hT hN
  have hl : lv_has ls 5 [(0, .ref (b)), (1, .int (iZ (a1))), (2, .int (iZ (a2))), (3, .ref (oL))] := hl
  refine pb_aload_n C dX0_lineTo_0 rfl (lv_at hl 3 rfl) ?_
  refine pb_ic C dX0_lineTo_1 ?_
  refine pb_aload_n C dX0_lineTo_2 rfl (lv_at hl 0 rfl) ?_
  refine pb_iload_n C dX0_lineTo_3 rfl (lv_at hl 1 rfl) ?_
  refine pb_iload_n C dX0_lineTo_4 rfl (lv_at hl 2 rfl) ?_
  refine pb_catch (bc' := mc - mc) (bs' := ms - ms) C (pb_runVX (rest := [.int (iZ (0)), .ref (oL)]) C hG (hM) hBo (ci := 0) rfl (lw_V q777 q778 q779 q51 q780) ⟨rfl, hdX1_lineTo⟩ rfl hl.1 rfl (Nat.le_of_ble_eq_true rfl) ⟨show dd + 1 ≤ 15 from by omega, show 8 + (3 + 11) + 64 * dd ≤ 64 * 15 from by omega⟩ dX0_lineTo_5) (by omega) (by omega) [] ⟨0, 10, 13, 31⟩ [⟨0, 10, 17, 15⟩] hT (fun z9 h9 => absurd h9 List.not_mem_nil) (by decide) (by decide) q776 q787 fun q9 H1 hF1 => ?_
  refine pb_astore C dX0_lineTo_13 hl (by decide) rfl fun ls hl => ?_
  have hl : lv_has ls 5 [(4, .ref (q9)), (0, .ref (b)), (1, .int (iZ (a1))), (2, .int (iZ (a2))), (3, .ref (oL))] := hl
  refine pb_ic C dX0_lineTo_15 ?_
  exact pb_iret C dX0_lineTo_16 (⟨_, rfl, rfl, hF1⟩)

set_option maxHeartbeats 1000000 in
theorem mex_X0_lineTo_2 {w : pb_W} (l : Launch) {H : Heap} (b oL : Nat) (fs : List Value) (hBo : pb_R w H b 0 fs) (a1 : Int) (a2 : Int) (dd mc ms : Nat) (hd : dd ≤ 14) (hM : pb_X w l yX1_lineTo cX1_lineTo 3 (some .int) dd mc ms [.ref b, .int (iZ a1), .int (iZ a2)] H RJ14) : pb_MW w l yX0_lineTo cX0_lineTo 5 (some .int) [(0, 10, 13, 31), (0, 10, 17, 15)] 15 (mc) (ms) [.ref (b), .int (iZ (a1)), .int (iZ (a2)), .ref (oL)] H (pb_qi (fun k H1 => k = 2 ∧ pb_F (fun _ => True) H H1)) := by
  refine pb_ofWH (by decide +kernel) (Nat.le_of_ble_eq_true rfl) ?_
  intro p_ e_ s_ m_ ar_ bl_ me_ co_ ls C hh hG hl hT hN
  have hl : lv_has ls 5 [(0, .ref (b)), (1, .int (iZ (a1))), (2, .int (iZ (a2))), (3, .ref (oL))] := hl
  refine pb_aload_n C dX0_lineTo_0 rfl (lv_at hl 3 rfl) ?_
  refine pb_ic C dX0_lineTo_1 ?_
  refine pb_aload_n C dX0_lineTo_2 rfl (lv_at hl 0 rfl) ?_
  refine pb_iload_n C dX0_lineTo_3 rfl (lv_at hl 1 rfl) ?_
  refine pb_iload_n C dX0_lineTo_4 rfl (lv_at hl 2 rfl) ?_
  refine pb_catch (bc' := mc - mc) (bs' := ms - ms) C (pb_runVX (rest := [.int (iZ (0)), .ref (oL)]) C hG (hM) hBo (ci := 0) rfl (lw_V q777 q778 q779 q51 q780) ⟨rfl, hdX1_lineTo⟩ rfl hl.1 rfl (Nat.le_of_ble_eq_true rfl) ⟨show dd + 1 ≤ 15 from by omega, show 8 + (3 + 11) + 64 * dd ≤ 64 * 15 from by omega⟩ dX0_lineTo_5) (by omega) (by omega) [⟨0, 10, 13, 31⟩] ⟨0, 10, 17, 15⟩ [] hT (List.forall_mem_cons.mpr ⟨⟨by decide, "java/lang/IllegalStateException", q776, hN ("java/lang/IllegalArgumentException", "java/lang/IllegalStateException") (by decide)⟩, (fun z9 h9 => absurd h9 List.not_mem_nil)⟩) (by decide) (by decide) q320 q386 fun q9 H1 hF1 => ?_
  refine pb_astore C dX0_lineTo_17 hl (by decide) rfl fun ls hl => ?_
  have hl : lv_has ls 5 [(4, .ref (q9)), (0, .ref (b)), (1, .int (iZ (a1))), (2, .int (iZ (a2))), (3, .ref (oL))] := hl
  refine pb_ic C dX0_lineTo_19 ?_
  exact pb_iret C dX0_lineTo_20 (⟨_, rfl, rfl, hF1⟩)

set_option maxHeartbeats 1000000 in
theorem met_X0_closePath {w : pb_W} (l : Launch) {H : Heap} (b oL : Nat) (fs : List Value) (hBo : pb_R w H b 0 fs) (a1 : Int) (a2 : Int) (dd mc ms : Nat) (post : Int → Heap → Prop) (g0 : Nat → Value) (hd : dd ≤ 14) (hM : pb_M w l yX1_closePath cX1_closePath 4 (some .int) dd mc ms [.ref b, .int (iZ a1), .int (iZ a2)] H (pb_qi post)) (hk : ∀ z H1, post z H1 → pb_F (fun q => q < w.2.2.2) H H1 ∧ H1[oL]? = H[oL]? ∧ -2147483648 ≤ z ∧ z ≤ 2147483647) (hA : pb_A w H oL 2 1 g0) (hz : w.2.2.2 ≤ oL) : pb_MW w l yX0_closePath cX0_closePath 5 (some .int) [(0, 10, 13, 13), (0, 10, 17, 31)] 15 (mc) (ms) [.ref (b), .int (iZ (a1)), .int (iZ (a2)), .ref (oL)] H (pb_qi (fun k H2 => k = 0 ∧ ∃ z H1 g, post z H1 ∧ pb_A w H2 oL 2 1 (updV g 0 (.long (lZ z))) ∧ pb_Up oL H1 H2)) := by
  refine pb_ofWH (by decide +kernel) (Nat.le_of_ble_eq_true rfl) ?_
  intro p_ e_ s_ m_ ar_ bl_ me_ co_ ls C hh hG hl hT hN
  have hl : lv_has ls 5 [(0, .ref (b)), (1, .int (iZ (a1))), (2, .int (iZ (a2))), (3, .ref (oL))] := hl
  refine pb_aload_n C dX0_closePath_0 rfl (lv_at hl 3 rfl) ?_
  refine pb_ic C dX0_closePath_1 ?_
  refine pb_aload_n C dX0_closePath_2 rfl (lv_at hl 0 rfl) ?_
  refine pb_iload_n C dX0_closePath_3 rfl (lv_at hl 1 rfl) ?_
  refine pb_iload_n C dX0_closePath_4 rfl (lv_at hl 2 rfl) ?_
  refine pb_go_i (bc' := mc - mc) (bs' := ms - ms) (pb_runV (rest := [.int (iZ (0)), .ref (oL)]) C hG (hM) hBo (ci := 0) rfl (lw_V q808 q809 q810 q51 q811) ⟨rfl, hdX1_closePath⟩ rfl hl.1 rfl (Nat.le_of_ble_eq_true rfl) ⟨show dd + 1 ≤ 15 from by omega, show 8 + (4 + 11) + 64 * dd ≤ 64 * 15 from by omega⟩ dX0_closePath_5) (by omega) (by omega) (fun z_ H1 hp_ => ?_)
  obtain ⟨hF1, ho1, hzr⟩ := hk _ _ hp_
  have hG := hG.kept hF1
  have hA := hA.kept ho1
  refine pb_i2l C dX0_closePath_8 (x := z_) (by omega) ?_
  refine pb_last C hA (i := 0) (by omega) (by omega) dX0_closePath_9 fun H1_ hu_ hA => ?_
  have hG := hG.kept (hu_.z (by omega))
  refine pb_goto C dX0_closePath_10 (tgt := 21) (by decide) ?_
  refine pb_ic C dX0_closePath_21 ?_
  exact pb_iret C dX0_closePath_22 (⟨_, rfl, rfl, _, _, _, hp_, hA, hu_⟩)

set_option maxHeartbeats 1000000 in
theorem mex_X0_closePath_1 {w : pb_W} (l : Launch) {H : Heap} (b oL : Nat) (fs : List Value) (hBo : pb_R w H b 0 fs) (a1 : Int) (a2 : Int) (dd mc ms : Nat) (hd : dd ≤ 14) (hM : pb_X w l yX1_closePath cX1_closePath 4 (some .int) dd mc ms [.ref b, .int (iZ a1), .int (iZ a2)] H RJ9) : pb_MW w l yX0_closePath cX0_closePath 5 (some .int) [(0, 10, 13, 13), (0, 10, 17, 31)] 15 (mc) (ms) [.ref (b), .int (iZ (a1)), .int (iZ (a2)), .ref (oL)] H (pb_qi (fun k H1 => k = 1 ∧ pb_F (fun _ => True) H H1)) := by
  refine pb_ofWH (by decide +kernel) (Nat.le_of_ble_eq_true rfl) ?_
  intro p_ e_ s_ m_ ar_ bl_ me_ co_ ls C hh hG hl hT hN
  have hl : lv_has ls 5 [(0, .ref (b)), (1, .int (iZ (a1))), (2, .int (iZ (a2))), (3, .ref (oL))] := hl
  refine pb_aload_n C dX0_closePath_0 rfl (lv_at hl 3 rfl) ?_
  refine pb_ic C dX0_closePath_1 ?_
  refine pb_aload_n C dX0_closePath_2 rfl (lv_at hl 0 rfl) ?_
  refine pb_iload_n C dX0_closePath_3 rfl (lv_at hl 1 rfl) ?_
  refine pb_iload_n C dX0_closePath_4 rfl (lv_at hl 2 rfl) ?_
  refine pb_catch (bc' := mc - mc) (bs' := ms - ms) C (pb_runVX (rest := [.int (iZ (0)), .ref (oL)]) C hG (hM) hBo (ci := 0) rfl (lw_V q808 q809 q810 q51 q811) ⟨rfl, hdX1_closePath⟩ rfl hl.1 rfl (Nat.le_of_ble_eq_true rfl) ⟨show dd + 1 ≤ 15 from by omega, show 8 + (4 + 11) + 64 * dd ≤ 64 * 15 from by omega⟩ dX0_closePath_5) (by omega) (by omega) [] ⟨0, 10, 13, 13⟩ [⟨0, 10, 17, 31⟩] hT (fun z9 h9 => absurd h9 List.not_mem_nil) (by decide) (by decide) q241 q337 fun q9 H1 hF1 => ?_
  refine pb_astore C dX0_closePath_13 hl (by decide) rfl fun ls hl => ?_
  have hl : lv_has ls 5 [(4, .ref (q9)), (0, .ref (b)), (1, .int (iZ (a1))), (2, .int (iZ (a2))), (3, .ref (oL))] := hl
  refine pb_ic C dX0_closePath_15 ?_
  exact pb_iret C dX0_closePath_16 (⟨_, rfl, rfl, hF1⟩)

set_option maxHeartbeats 1000000 in
theorem mex_X0_closePath_2 {w : pb_W} (l : Launch) {H : Heap} (b oL : Nat) (fs : List Value) (hBo : pb_R w H b 0 fs) (a1 : Int) (a2 : Int) (dd mc ms : Nat) (hd : dd ≤ 14) (hM : pb_X w l yX1_closePath cX1_closePath 4 (some .int) dd mc ms [.ref b, .int (iZ a1), .int (iZ a2)] H RJ17) : pb_MW w l yX0_closePath cX0_closePath 5 (some .int) [(0, 10, 13, 13), (0, 10, 17, 31)] 15 (mc) (ms) [.ref (b), .int (iZ (a1)), .int (iZ (a2)), .ref (oL)] H (pb_qi (fun k H1 => k = 2 ∧ pb_F (fun _ => True) H H1)) := by
  refine pb_ofWH (by decide +kernel) (Nat.le_of_ble_eq_true rfl) ?_
  intro p_ e_ s_ m_ ar_ bl_ me_ co_ ls C hh hG hl hT hN
  have hl : lv_has ls 5 [(0, .ref (b)), (1, .int (iZ (a1))), (2, .int (iZ (a2))), (3, .ref (oL))] := hl
  refine pb_aload_n C dX0_closePath_0 rfl (lv_at hl 3 rfl) ?_
  refine pb_ic C dX0_closePath_1 ?_
  refine pb_aload_n C dX0_closePath_2 rfl (lv_at hl 0 rfl) ?_
  refine pb_iload_n C dX0_closePath_3 rfl (lv_at hl 1 rfl) ?_
  refine pb_iload_n C dX0_closePath_4 rfl (lv_at hl 2 rfl) ?_
  refine pb_catch (bc' := mc - mc) (bs' := ms - ms) C (pb_runVX (rest := [.int (iZ (0)), .ref (oL)]) C hG (hM) hBo (ci := 0) rfl (lw_V q808 q809 q810 q51 q811) ⟨rfl, hdX1_closePath⟩ rfl hl.1 rfl (Nat.le_of_ble_eq_true rfl) ⟨show dd + 1 ≤ 15 from by omega, show 8 + (4 + 11) + 64 * dd ≤ 64 * 15 from by omega⟩ dX0_closePath_5) (by omega) (by omega) [⟨0, 10, 13, 13⟩] ⟨0, 10, 17, 31⟩ [] hT (List.forall_mem_cons.mpr ⟨⟨by decide, "java/lang/IndexOutOfBoundsException", q241, hN ("java/lang/IllegalStateException", "java/lang/IndexOutOfBoundsException") (by decide)⟩, (fun z9 h9 => absurd h9 List.not_mem_nil)⟩) (by decide) (by decide) q776 q787 fun q9 H1 hF1 => ?_
  refine pb_astore C dX0_closePath_17 hl (by decide) rfl fun ls hl => ?_
  have hl : lv_has ls 5 [(4, .ref (q9)), (0, .ref (b)), (1, .int (iZ (a1))), (2, .int (iZ (a2))), (3, .ref (oL))] := hl
  refine pb_ic C dX0_closePath_19 ?_
  exact pb_iret C dX0_closePath_20 (⟨_, rfl, rfl, hF1⟩)

set_option maxHeartbeats 1000000 in
theorem met_X0_combine {w : pb_W} (l : Launch) {H : Heap} (b oL : Nat) (fs : List Value) (hBo : pb_R w H b 0 fs) (a1 : Int) (a2 : Int) (a3 : Int) (a4 : Int) (dd mc ms : Nat) (post : Int → Heap → Prop) (g0 : Nat → Value) (hd : dd ≤ 14) (hM : pb_M w l yX1_combine cX1_combine 8 (some .int) dd mc ms [.ref b, .int (iZ a1), .int (iZ a2), .int (iZ a3), .int (iZ a4)] H (pb_qi post)) (hk : ∀ z H1, post z H1 → pb_F (fun q => q < w.2.2.2) H H1 ∧ H1[oL]? = H[oL]? ∧ -2147483648 ≤ z ∧ z ≤ 2147483647) (hA : pb_A w H oL 2 1 g0) (hz : w.2.2.2 ≤ oL) : pb_MW w l yX0_combine cX0_combine 7 (some .int) [(0, 14, 17, 13), (0, 14, 21, 15)] 15 (mc) (ms) [.ref (b), .int (iZ (a1)), .int (iZ (a2)), .int (iZ (a3)), .int (iZ (a4)), .ref (oL)] H (pb_qi (fun k H2 => k = 0 ∧ ∃ z H1 g, post z H1 ∧ pb_A w H2 oL 2 1 (updV g 0 (.long (lZ z))) ∧ pb_Up oL H1 H2)) := by
  refine pb_ofWH (by decide +kernel) (Nat.le_of_ble_eq_true rfl) ?_
  intro p_ e_ s_ m_ ar_ bl_ me_ co_ ls C hh hG hl hT hN
  have hl : lv_has ls 7 [(0, .ref (b)), (1, .int (iZ (a1))), (2, .int (iZ (a2))), (3, .int (iZ (a3))), (4, .int (iZ (a4))), (5, .ref (oL))] := hl
  refine pb_aload C dX0_combine_0 (lv_at hl 5 rfl) ?_
  refine pb_ic C dX0_combine_2 ?_
  refine pb_aload_n C dX0_combine_3 rfl (lv_at hl 0 rfl) ?_
  refine pb_iload_n C dX0_combine_4 rfl (lv_at hl 1 rfl) ?_
  refine pb_iload_n C dX0_combine_5 rfl (lv_at hl 2 rfl) ?_
  refine pb_iload_n C dX0_combine_6 rfl (lv_at hl 3 rfl) ?_
  refine pb_iload C dX0_combine_7 (lv_at hl 4 rfl) ?_
  refine pb_go_i (bc' := mc - mc) (bs' := ms - ms) (pb_runV (rest := [.int (iZ (0)), .ref (oL)]) C hG (hM) hBo (ci := 0) rfl (lw_V q838 q839 q840 q51 q841) ⟨rfl, hdX1_combine⟩ rfl hl.1 rfl (Nat.le_of_ble_eq_true rfl) ⟨show dd + 1 ≤ 15 from by omega, show 8 + (8 + 11) + 64 * dd ≤ 64 * 15 from by omega⟩ dX0_combine_9) (by omega) (by omega) (fun z_ H1 hp_ => ?_)
  obtain ⟨hF1, ho1, hzr⟩ := hk _ _ hp_
  have hG := hG.kept hF1
  have hA := hA.kept ho1
  refine pb_i2l C dX0_combine_12 (x := z_) (by omega) ?_
  refine pb_last C hA (i := 0) (by omega) (by omega) dX0_combine_13 fun H1_ hu_ hA => ?_
  have hG := hG.kept (hu_.z (by omega))
  refine pb_goto C dX0_combine_14 (tgt := 25) (by decide) ?_
  refine pb_ic C dX0_combine_25 ?_
  exact pb_iret C dX0_combine_26 (⟨_, rfl, rfl, _, _, _, hp_, hA, hu_⟩)

set_option maxHeartbeats 1000000 in
theorem mex_X0_combine_1 {w : pb_W} (l : Launch) {H : Heap} (b oL : Nat) (fs : List Value) (hBo : pb_R w H b 0 fs) (a1 : Int) (a2 : Int) (a3 : Int) (a4 : Int) (dd mc ms : Nat) (hd : dd ≤ 14) (hM : pb_X w l yX1_combine cX1_combine 8 (some .int) dd mc ms [.ref b, .int (iZ a1), .int (iZ a2), .int (iZ a3), .int (iZ a4)] H RJ9) : pb_MW w l yX0_combine cX0_combine 7 (some .int) [(0, 14, 17, 13), (0, 14, 21, 15)] 15 (mc) (ms) [.ref (b), .int (iZ (a1)), .int (iZ (a2)), .int (iZ (a3)), .int (iZ (a4)), .ref (oL)] H (pb_qi (fun k H1 => k = 1 ∧ pb_F (fun _ => True) H H1)) := by
  refine pb_ofWH (by decide +kernel) (Nat.le_of_ble_eq_true rfl) ?_
  intro p_ e_ s_ m_ ar_ bl_ me_ co_ ls C hh hG hl hT hN
  have hl : lv_has ls 7 [(0, .ref (b)), (1, .int (iZ (a1))), (2, .int (iZ (a2))), (3, .int (iZ (a3))), (4, .int (iZ (a4))), (5, .ref (oL))] := hl
  refine pb_aload C dX0_combine_0 (lv_at hl 5 rfl) ?_
  refine pb_ic C dX0_combine_2 ?_
  refine pb_aload_n C dX0_combine_3 rfl (lv_at hl 0 rfl) ?_
  refine pb_iload_n C dX0_combine_4 rfl (lv_at hl 1 rfl) ?_
  refine pb_iload_n C dX0_combine_5 rfl (lv_at hl 2 rfl) ?_
  refine pb_iload_n C dX0_combine_6 rfl (lv_at hl 3 rfl) ?_
  refine pb_iload C dX0_combine_7 (lv_at hl 4 rfl) ?_
  refine pb_catch (bc' := mc - mc) (bs' := ms - ms) C (pb_runVX (rest := [.int (iZ (0)), .ref (oL)]) C hG (hM) hBo (ci := 0) rfl (lw_V q838 q839 q840 q51 q841) ⟨rfl, hdX1_combine⟩ rfl hl.1 rfl (Nat.le_of_ble_eq_true rfl) ⟨show dd + 1 ≤ 15 from by omega, show 8 + (8 + 11) + 64 * dd ≤ 64 * 15 from by omega⟩ dX0_combine_9) (by omega) (by omega) [] ⟨0, 14, 17, 13⟩ [⟨0, 14, 21, 15⟩] hT (fun z9 h9 => absurd h9 List.not_mem_nil) (by decide) (by decide) q241 q337 fun q9 H1 hF1 => ?_
  refine pb_astore C dX0_combine_17 hl (by decide) rfl fun ls hl => ?_
  have hl : lv_has ls 7 [(6, .ref (q9)), (0, .ref (b)), (1, .int (iZ (a1))), (2, .int (iZ (a2))), (3, .int (iZ (a3))), (4, .int (iZ (a4))), (5, .ref (oL))] := hl
  refine pb_ic C dX0_combine_19 ?_
  exact pb_iret C dX0_combine_20 (⟨_, rfl, rfl, hF1⟩)

set_option maxHeartbeats 1000000 in
theorem mex_X0_combine_2 {w : pb_W} (l : Launch) {H : Heap} (b oL : Nat) (fs : List Value) (hBo : pb_R w H b 0 fs) (a1 : Int) (a2 : Int) (a3 : Int) (a4 : Int) (dd mc ms : Nat) (hd : dd ≤ 14) (hM : pb_X w l yX1_combine cX1_combine 8 (some .int) dd mc ms [.ref b, .int (iZ a1), .int (iZ a2), .int (iZ a3), .int (iZ a4)] H RJ14) : pb_MW w l yX0_combine cX0_combine 7 (some .int) [(0, 14, 17, 13), (0, 14, 21, 15)] 15 (mc) (ms) [.ref (b), .int (iZ (a1)), .int (iZ (a2)), .int (iZ (a3)), .int (iZ (a4)), .ref (oL)] H (pb_qi (fun k H1 => k = 2 ∧ pb_F (fun _ => True) H H1)) := by
  refine pb_ofWH (by decide +kernel) (Nat.le_of_ble_eq_true rfl) ?_
  intro p_ e_ s_ m_ ar_ bl_ me_ co_ ls C hh hG hl hT hN
  have hl : lv_has ls 7 [(0, .ref (b)), (1, .int (iZ (a1))), (2, .int (iZ (a2))), (3, .int (iZ (a3))), (4, .int (iZ (a4))), (5, .ref (oL))] := hl
  refine pb_aload C dX0_combine_0 (lv_at hl 5 rfl) ?_
  refine pb_ic C dX0_combine_2 ?_
  refine pb_aload_n C dX0_combine_3 rfl (lv_at hl 0 rfl) ?_
  refine pb_iload_n C dX0_combine_4 rfl (lv_at hl 1 rfl) ?_
  refine pb_iload_n C dX0_combine_5 rfl (lv_at hl 2 rfl) ?_
  refine pb_iload_n C dX0_combine_6 rfl (lv_at hl 3 rfl) ?_
  refine pb_iload C dX0_combine_7 (lv_at hl 4 rfl) ?_
  refine pb_catch (bc' := mc - mc) (bs' := ms - ms) C (pb_runVX (rest := [.int (iZ (0)), .ref (oL)]) C hG (hM) hBo (ci := 0) rfl (lw_V q838 q839 q840 q51 q841) ⟨rfl, hdX1_combine⟩ rfl hl.1 rfl (Nat.le_of_ble_eq_true rfl) ⟨show dd + 1 ≤ 15 from by omega, show 8 + (8 + 11) + 64 * dd ≤ 64 * 15 from by omega⟩ dX0_combine_9) (by omega) (by omega) [⟨0, 14, 17, 13⟩] ⟨0, 14, 21, 15⟩ [] hT (List.forall_mem_cons.mpr ⟨⟨by decide, "java/lang/IndexOutOfBoundsException", q241, hN ("java/lang/IllegalArgumentException", "java/lang/IndexOutOfBoundsException") (by decide)⟩, (fun z9 h9 => absurd h9 List.not_mem_nil)⟩) (by decide) (by decide) q320 q386 fun q9 H1 hF1 => ?_
  refine pb_astore C dX0_combine_21 hl (by decide) rfl fun ls hl => ?_
  have hl : lv_has ls 7 [(6, .ref (q9)), (0, .ref (b)), (1, .int (iZ (a1))), (2, .int (iZ (a2))), (3, .int (iZ (a3))), (4, .int (iZ (a4))), (5, .ref (oL))] := hl
  refine pb_ic C dX0_combine_23 ?_
  exact pb_iret C dX0_combine_24 (⟨_, rfl, rfl, hF1⟩)

set_option maxHeartbeats 1000000 in
theorem met_X0_grow {w : pb_W} (l : Launch) {H : Heap} (b oL : Nat) (fs : List Value) (hBo : pb_R w H b 0 fs) (a1 : Int) (a2 : Int) (a3 : Int) (dd mc ms : Nat) (post : Int → Heap → Prop) (g0 : Nat → Value) (hd : dd ≤ 14) (hM : pb_M w l yX1_grow cX1_grow 5 (some .int) dd mc ms [.ref b, .int (iZ a1), .int (iZ a2), .int (iZ a3)] H (pb_qi post)) (hk : ∀ z H1, post z H1 → pb_F (fun q => q < w.2.2.2) H H1 ∧ H1[oL]? = H[oL]? ∧ -2147483648 ≤ z ∧ z ≤ 2147483647) (hA : pb_A w H oL 2 1 g0) (hz : w.2.2.2 ≤ oL) : pb_MW w l yX0_grow cX0_grow 6 (some .int) [(0, 12, 15, 13), (0, 12, 19, 15)] 15 (mc) (ms) [.ref (b), .int (iZ (a1)), .int (iZ (a2)), .int (iZ (a3)), .ref (oL)] H (pb_qi (fun k H2 => k = 0 ∧ ∃ z H1 g, post z H1 ∧ pb_A w H2 oL 2 1 (updV g 0 (.long (lZ z))) ∧ pb_Up oL H1 H2)) := by
  refine pb_ofWH (by decide +kernel) (Nat.le_of_ble_eq_true rfl) ?_
  intro p_ e_ s_ m_ ar_ bl_ me_ co_ ls C hh hG hl hT hN
  have hl : lv_has ls 6 [(0, .ref (b)), (1, .int (iZ (a1))), (2, .int (iZ (a2))), (3, .int (iZ (a3))), (4, .ref (oL))] := hl
  refine pb_aload C dX0_grow_0 (lv_at hl 4 rfl) ?_
  refine pb_ic C dX0_grow_2 ?_
  refine pb_aload_n C dX0_grow_3 rfl (lv_at hl 0 rfl) ?_
  refine pb_iload_n C dX0_grow_4 rfl (lv_at hl 1 rfl) ?_
  refine pb_iload_n C dX0_grow_5 rfl (lv_at hl 2 rfl) ?_
  refine pb_iload_n C dX0_grow_6 rfl (lv_at hl 3 rfl) ?_
  refine pb_go_i (bc' := mc - mc) (bs' := ms - ms) (pb_runV (rest := [.int (iZ (0)), .ref (oL)]) C hG (hM) hBo (ci := 0) rfl (lw_V q861 q862 q863 q51 q864) ⟨rfl, hdX1_grow⟩ rfl hl.1 rfl (Nat.le_of_ble_eq_true rfl) ⟨show dd + 1 ≤ 15 from by omega, show 8 + (5 + 11) + 64 * dd ≤ 64 * 15 from by omega⟩ dX0_grow_7) (by omega) (by omega) (fun z_ H1 hp_ => ?_)
  obtain ⟨hF1, ho1, hzr⟩ := hk _ _ hp_
  have hG := hG.kept hF1
  have hA := hA.kept ho1
  refine pb_i2l C dX0_grow_10 (x := z_) (by omega) ?_
  refine pb_last C hA (i := 0) (by omega) (by omega) dX0_grow_11 fun H1_ hu_ hA => ?_
  have hG := hG.kept (hu_.z (by omega))
  refine pb_goto C dX0_grow_12 (tgt := 23) (by decide) ?_
  refine pb_ic C dX0_grow_23 ?_
  exact pb_iret C dX0_grow_24 (⟨_, rfl, rfl, _, _, _, hp_, hA, hu_⟩)

set_option maxHeartbeats 1000000 in
theorem mex_X0_grow_1 {w : pb_W} (l : Launch) {H : Heap} (b oL : Nat) (fs : List Value) (hBo : pb_R w H b 0 fs) (a1 : Int) (a2 : Int) (a3 : Int) (dd mc ms : Nat) (hd : dd ≤ 14) (hM : pb_X w l yX1_grow cX1_grow 5 (some .int) dd mc ms [.ref b, .int (iZ a1), .int (iZ a2), .int (iZ a3)] H RJ9) : pb_MW w l yX0_grow cX0_grow 6 (some .int) [(0, 12, 15, 13), (0, 12, 19, 15)] 15 (mc) (ms) [.ref (b), .int (iZ (a1)), .int (iZ (a2)), .int (iZ (a3)), .ref (oL)] H (pb_qi (fun k H1 => k = 1 ∧ pb_F (fun _ => True) H H1)) := by
  refine pb_ofWH (by decide +kernel) (Nat.le_of_ble_eq_true rfl) ?_
  intro p_ e_ s_ m_ ar_ bl_ me_ co_ ls C hh hG hl hT hN
  have hl : lv_has ls 6 [(0, .ref (b)), (1, .int (iZ (a1))), (2, .int (iZ (a2))), (3, .int (iZ (a3))), (4, .ref (oL))] := hl
  refine pb_aload C dX0_grow_0 (lv_at hl 4 rfl) ?_
  refine pb_ic C dX0_grow_2 ?_
  refine pb_aload_n C dX0_grow_3 rfl (lv_at hl 0 rfl) ?_
  refine pb_iload_n C dX0_grow_4 rfl (lv_at hl 1 rfl) ?_
  refine pb_iload_n C dX0_grow_5 rfl (lv_at hl 2 rfl) ?_
  refine pb_iload_n C dX0_grow_6 rfl (lv_at hl 3 rfl) ?_
  refine pb_catch (bc' := mc - mc) (bs' := ms - ms) C (pb_runVX (rest := [.int (iZ (0)), .ref (oL)]) C hG (hM) hBo (ci := 0) rfl (lw_V q861 q862 q863 q51 q864) ⟨rfl, hdX1_grow⟩ rfl hl.1 rfl (Nat.le_of_ble_eq_true rfl) ⟨show dd + 1 ≤ 15 from by omega, show 8 + (5 + 11) + 64 * dd ≤ 64 * 15 from by omega⟩ dX0_grow_7) (by omega) (by omega) [] ⟨0, 12, 15, 13⟩ [⟨0, 12, 19, 15⟩] hT (fun z9 h9 => absurd h9 List.not_mem_nil) (by decide) (by decide) q241 q337 fun q9 H1 hF1 => ?_
  refine pb_astore C dX0_grow_15 hl (by decide) rfl fun ls hl => ?_
  have hl : lv_has ls 6 [(5, .ref (q9)), (0, .ref (b)), (1, .int (iZ (a1))), (2, .int (iZ (a2))), (3, .int (iZ (a3))), (4, .ref (oL))] := hl
  refine pb_ic C dX0_grow_17 ?_
  exact pb_iret C dX0_grow_18 (⟨_, rfl, rfl, hF1⟩)

set_option maxHeartbeats 1000000 in
theorem mex_X0_grow_2 {w : pb_W} (l : Launch) {H : Heap} (b oL : Nat) (fs : List Value) (hBo : pb_R w H b 0 fs) (a1 : Int) (a2 : Int) (a3 : Int) (dd mc ms : Nat) (hd : dd ≤ 14) (hM : pb_X w l yX1_grow cX1_grow 5 (some .int) dd mc ms [.ref b, .int (iZ a1), .int (iZ a2), .int (iZ a3)] H RJ14) : pb_MW w l yX0_grow cX0_grow 6 (some .int) [(0, 12, 15, 13), (0, 12, 19, 15)] 15 (mc) (ms) [.ref (b), .int (iZ (a1)), .int (iZ (a2)), .int (iZ (a3)), .ref (oL)] H (pb_qi (fun k H1 => k = 2 ∧ pb_F (fun _ => True) H H1)) := by
  refine pb_ofWH (by decide +kernel) (Nat.le_of_ble_eq_true rfl) ?_
  intro p_ e_ s_ m_ ar_ bl_ me_ co_ ls C hh hG hl hT hN
  have hl : lv_has ls 6 [(0, .ref (b)), (1, .int (iZ (a1))), (2, .int (iZ (a2))), (3, .int (iZ (a3))), (4, .ref (oL))] := hl
  refine pb_aload C dX0_grow_0 (lv_at hl 4 rfl) ?_
  refine pb_ic C dX0_grow_2 ?_
  refine pb_aload_n C dX0_grow_3 rfl (lv_at hl 0 rfl) ?_
  refine pb_iload_n C dX0_grow_4 rfl (lv_at hl 1 rfl) ?_
  refine pb_iload_n C dX0_grow_5 rfl (lv_at hl 2 rfl) ?_
  refine pb_iload_n C dX0_grow_6 rfl (lv_at hl 3 rfl) ?_
  refine pb_catch (bc' := mc - mc) (bs' := ms - ms) C (pb_runVX (rest := [.int (iZ (0)), .ref (oL)]) C hG (hM) hBo (ci := 0) rfl (lw_V q861 q862 q863 q51 q864) ⟨rfl, hdX1_grow⟩ rfl hl.1 rfl (Nat.le_of_ble_eq_true rfl) ⟨show dd + 1 ≤ 15 from by omega, show 8 + (5 + 11) + 64 * dd ≤ 64 * 15 from by omega⟩ dX0_grow_7) (by omega) (by omega) [⟨0, 12, 15, 13⟩] ⟨0, 12, 19, 15⟩ [] hT (List.forall_mem_cons.mpr ⟨⟨by decide, "java/lang/IndexOutOfBoundsException", q241, hN ("java/lang/IllegalArgumentException", "java/lang/IndexOutOfBoundsException") (by decide)⟩, (fun z9 h9 => absurd h9 List.not_mem_nil)⟩) (by decide) (by decide) q320 q386 fun q9 H1 hF1 => ?_
  refine pb_astore C dX0_grow_19 hl (by decide) rfl fun ls hl => ?_
  have hl : lv_has ls 6 [(5, .ref (q9)), (0, .ref (b)), (1, .int (iZ (a1))), (2, .int (iZ (a2))), (3, .int (iZ (a3))), (4, .ref (oL))] := hl
  refine pb_ic C dX0_grow_21 ?_
  exact pb_iret C dX0_grow_22 (⟨_, rfl, rfl, hF1⟩)

set_option maxHeartbeats 1000000 in
theorem met_X0_shrink {w : pb_W} (l : Launch) {H : Heap} (b oL : Nat) (fs : List Value) (hBo : pb_R w H b 0 fs) (a1 : Int) (a2 : Int) (a3 : Int) (dd mc ms : Nat) (post : Int → Heap → Prop) (g0 : Nat → Value) (hd : dd ≤ 14) (hM : pb_M w l yX1_shrink cX1_shrink 5 (some .int) dd mc ms [.ref b, .int (iZ a1), .int (iZ a2), .int (iZ a3)] H (pb_qi post)) (hk : ∀ z H1, post z H1 → pb_F (fun q => q < w.2.2.2) H H1 ∧ H1[oL]? = H[oL]? ∧ -2147483648 ≤ z ∧ z ≤ 2147483647) (hA : pb_A w H oL 2 1 g0) (hz : w.2.2.2 ≤ oL) : pb_MW w l yX0_shrink cX0_shrink 6 (some .int) [(0, 12, 15, 13), (0, 12, 19, 15)] 15 (mc) (ms) [.ref (b), .int (iZ (a1)), .int (iZ (a2)), .int (iZ (a3)), .ref (oL)] H (pb_qi (fun k H2 => k = 0 ∧ ∃ z H1 g, post z H1 ∧ pb_A w H2 oL 2 1 (updV g 0 (.long (lZ z))) ∧ pb_Up oL H1 H2)) := by
  refine pb_ofWH (by decide +kernel) (Nat.le_of_ble_eq_true rfl) ?_
  intro p_ e_ s_ m_ ar_ bl_ me_ co_ ls C hh hG hl hT hN
  have hl : lv_has ls 6 [(0, .ref (b)), (1, .int (iZ (a1))), (2, .int (iZ (a2))), (3, .int (iZ (a3))), (4, .ref (oL))] := hl
  refine pb_aload C dX0_shrink_0 (lv_at hl 4 rfl) ?_
  refine pb_ic C dX0_shrink_2 ?_
  refine pb_aload_n C dX0_shrink_3 rfl (lv_at hl 0 rfl) ?_
  refine pb_iload_n C dX0_shrink_4 rfl (lv_at hl 1 rfl) ?_
  refine pb_iload_n C dX0_shrink_5 rfl (lv_at hl 2 rfl) ?_
  refine pb_iload_n C dX0_shrink_6 rfl (lv_at hl 3 rfl) ?_
  refine pb_go_i (bc' := mc - mc) (bs' := ms - ms) (pb_runV (rest := [.int (iZ (0)), .ref (oL)]) C hG (hM) hBo (ci := 0) rfl (lw_V q907 q908 q909 q51 q910) ⟨rfl, hdX1_shrink⟩ rfl hl.1 rfl (Nat.le_of_ble_eq_true rfl) ⟨show dd + 1 ≤ 15 from by omega, show 8 + (5 + 11) + 64 * dd ≤ 64 * 15 from by omega⟩ dX0_shrink_7) (by omega) (by omega) (fun z_ H1 hp_ => ?_)
  obtain ⟨hF1, ho1, hzr⟩ := hk _ _ hp_
  have hG := hG.kept hF1
  have hA := hA.kept ho1
  refine pb_i2l C dX0_shrink_10 (x := z_) (by omega) ?_
  refine pb_last C hA (i := 0) (by omega) (by omega) dX0_shrink_11 fun H1_ hu_ hA => ?_
  have hG := hG.kept (hu_.z (by omega))
  refine pb_goto C dX0_shrink_12 (tgt := 23) (by decide) ?_
  refine pb_ic C dX0_shrink_23 ?_
  exact pb_iret C dX0_shrink_24 (⟨_, rfl, rfl, _, _, _, hp_, hA, hu_⟩)

set_option maxHeartbeats 1000000 in
theorem mex_X0_shrink_1 {w : pb_W} (l : Launch) {H : Heap} (b oL : Nat) (fs : List Value) (hBo : pb_R w H b 0 fs) (a1 : Int) (a2 : Int) (a3 : Int) (dd mc ms : Nat) (hd : dd ≤ 14) (hM : pb_X w l yX1_shrink cX1_shrink 5 (some .int) dd mc ms [.ref b, .int (iZ a1), .int (iZ a2), .int (iZ a3)] H RJ9) : pb_MW w l yX0_shrink cX0_shrink 6 (some .int) [(0, 12, 15, 13), (0, 12, 19, 15)] 15 (mc) (ms) [.ref (b), .int (iZ (a1)), .int (iZ (a2)), .int (iZ (a3)), .ref (oL)] H (pb_qi (fun k H1 => k = 1 ∧ pb_F (fun _ => True) H H1)) := by
  refine pb_ofWH (by decide +kernel) (Nat.le_of_ble_eq_true rfl) ?_
  intro p_ e_ s_ m_ ar_ bl_ me_ co_ ls C hh hG hl hT hN
  have hl : lv_has ls 6 [(0, .ref (b)), (1, .int (iZ (a1))), (2, .int (iZ (a2))), (3, .int (iZ (a3))), (4, .ref (oL))] := hl
  refine pb_aload C dX0_shrink_0 (lv_at hl 4 rfl) ?_
  refine pb_ic C dX0_shrink_2 ?_
  refine pb_aload_n C dX0_shrink_3 rfl (lv_at hl 0 rfl) ?_
  refine pb_iload_n C dX0_shrink_4 rfl (lv_at hl 1 rfl) ?_
  refine pb_iload_n C dX0_shrink_5 rfl (lv_at hl 2 rfl) ?_
  refine pb_iload_n C dX0_shrink_6 rfl (lv_at hl 3 rfl) ?_
  refine pb_catch (bc' := mc - mc) (bs' := ms - ms) C (pb_runVX (rest := [.int (iZ (0)), .ref (oL)]) C hG (hM) hBo (ci := 0) rfl (lw_V q907 q908 q909 q51 q910) ⟨rfl, hdX1_shrink⟩ rfl hl.1 rfl (Nat.le_of_ble_eq_true rfl) ⟨show dd + 1 ≤ 15 from by omega, show 8 + (5 + 11) + 64 * dd ≤ 64 * 15 from by omega⟩ dX0_shrink_7) (by omega) (by omega) [] ⟨0, 12, 15, 13⟩ [⟨0, 12, 19, 15⟩] hT (fun z9 h9 => absurd h9 List.not_mem_nil) (by decide) (by decide) q241 q337 fun q9 H1 hF1 => ?_
  refine pb_astore C dX0_shrink_15 hl (by decide) rfl fun ls hl => ?_
  have hl : lv_has ls 6 [(5, .ref (q9)), (0, .ref (b)), (1, .int (iZ (a1))), (2, .int (iZ (a2))), (3, .int (iZ (a3))), (4, .ref (oL))] := hl
  refine pb_ic C dX0_shrink_17 ?_
  exact pb_iret C dX0_shrink_18 (⟨_, rfl, rfl, hF1⟩)

set_option maxHeartbeats 1000000 in
theorem mex_X0_shrink_2 {w : pb_W} (l : Launch) {H : Heap} (b oL : Nat) (fs : List Value) (hBo : pb_R w H b 0 fs) (a1 : Int) (a2 : Int) (a3 : Int) (dd mc ms : Nat) (hd : dd ≤ 14) (hM : pb_X w l yX1_shrink cX1_shrink 5 (some .int) dd mc ms [.ref b, .int (iZ a1), .int (iZ a2), .int (iZ a3)] H RJ14) : pb_MW w l yX0_shrink cX0_shrink 6 (some .int) [(0, 12, 15, 13), (0, 12, 19, 15)] 15 (mc) (ms) [.ref (b), .int (iZ (a1)), .int (iZ (a2)), .int (iZ (a3)), .ref (oL)] H (pb_qi (fun k H1 => k = 2 ∧ pb_F (fun _ => True) H H1)) := by
  refine pb_ofWH (by decide +kernel) (Nat.le_of_ble_eq_true rfl) ?_
  intro p_ e_ s_ m_ ar_ bl_ me_ co_ ls C hh hG hl hT hN
  have hl : lv_has ls 6 [(0, .ref (b)), (1, .int (iZ (a1))), (2, .int (iZ (a2))), (3, .int (iZ (a3))), (4, .ref (oL))] := hl
  refine pb_aload C dX0_shrink_0 (lv_at hl 4 rfl) ?_
  refine pb_ic C dX0_shrink_2 ?_
  refine pb_aload_n C dX0_shrink_3 rfl (lv_at hl 0 rfl) ?_
  refine pb_iload_n C dX0_shrink_4 rfl (lv_at hl 1 rfl) ?_
  refine pb_iload_n C dX0_shrink_5 rfl (lv_at hl 2 rfl) ?_
  refine pb_iload_n C dX0_shrink_6 rfl (lv_at hl 3 rfl) ?_
  refine pb_catch (bc' := mc - mc) (bs' := ms - ms) C (pb_runVX (rest := [.int (iZ (0)), .ref (oL)]) C hG (hM) hBo (ci := 0) rfl (lw_V q907 q908 q909 q51 q910) ⟨rfl, hdX1_shrink⟩ rfl hl.1 rfl (Nat.le_of_ble_eq_true rfl) ⟨show dd + 1 ≤ 15 from by omega, show 8 + (5 + 11) + 64 * dd ≤ 64 * 15 from by omega⟩ dX0_shrink_7) (by omega) (by omega) [⟨0, 12, 15, 13⟩] ⟨0, 12, 19, 15⟩ [] hT (List.forall_mem_cons.mpr ⟨⟨by decide, "java/lang/IndexOutOfBoundsException", q241, hN ("java/lang/IllegalArgumentException", "java/lang/IndexOutOfBoundsException") (by decide)⟩, (fun z9 h9 => absurd h9 List.not_mem_nil)⟩) (by decide) (by decide) q320 q386 fun q9 H1 hF1 => ?_
  refine pb_astore C dX0_shrink_19 hl (by decide) rfl fun ls hl => ?_
  have hl : lv_has ls 6 [(5, .ref (q9)), (0, .ref (b)), (1, .int (iZ (a1))), (2, .int (iZ (a2))), (3, .int (iZ (a3))), (4, .ref (oL))] := hl
  refine pb_ic C dX0_shrink_21 ?_
  exact pb_iret C dX0_shrink_22 (⟨_, rfl, rfl, hF1⟩)

set_option maxHeartbeats 1000000 in
theorem met_X0_move {w : pb_W} (l : Launch) {H : Heap} (b oL : Nat) (fs : List Value) (hBo : pb_R w H b 0 fs) (a1 : Int) (a2 : Int) (a3 : Int) (a4 : Int) (dd mc ms : Nat) (post : Int → Heap → Prop) (g0 : Nat → Value) (hd : dd ≤ 14) (hM : pb_M w l yX1_move cX1_move 6 (some .int) dd mc ms [.ref b, .int (iZ a1), .int (iZ a2), .int (iZ a3), .int (iZ a4)] H (pb_qi post)) (hk : ∀ z H1, post z H1 → pb_F (fun q => q < w.2.2.2) H H1 ∧ H1[oL]? = H[oL]? ∧ -2147483648 ≤ z ∧ z ≤ 2147483647) (hA : pb_A w H oL 2 1 g0) (hz : w.2.2.2 ≤ oL) : pb_MW w l yX0_move cX0_move 7 (some .int) [(0, 14, 17, 13), (0, 14, 21, 15)] 15 (mc) (ms) [.ref (b), .int (iZ (a1)), .int (iZ (a2)), .int (iZ (a3)), .int (iZ (a4)), .ref (oL)] H (pb_qi (fun k H2 => k = 0 ∧ ∃ z H1 g, post z H1 ∧ pb_A w H2 oL 2 1 (updV g 0 (.long (lZ z))) ∧ pb_Up oL H1 H2)) := by
  refine pb_ofWH (by decide +kernel) (Nat.le_of_ble_eq_true rfl) ?_
  intro p_ e_ s_ m_ ar_ bl_ me_ co_ ls C hh hG hl hT hN
  have hl : lv_has ls 7 [(0, .ref (b)), (1, .int (iZ (a1))), (2, .int (iZ (a2))), (3, .int (iZ (a3))), (4, .int (iZ (a4))), (5, .ref (oL))] := hl
  refine pb_aload C dX0_move_0 (lv_at hl 5 rfl) ?_
  refine pb_ic C dX0_move_2 ?_
  refine pb_aload_n C dX0_move_3 rfl (lv_at hl 0 rfl) ?_
  refine pb_iload_n C dX0_move_4 rfl (lv_at hl 1 rfl) ?_
  refine pb_iload_n C dX0_move_5 rfl (lv_at hl 2 rfl) ?_
  refine pb_iload_n C dX0_move_6 rfl (lv_at hl 3 rfl) ?_
  refine pb_iload C dX0_move_7 (lv_at hl 4 rfl) ?_
  refine pb_go_i (bc' := mc - mc) (bs' := ms - ms) (pb_runV (rest := [.int (iZ (0)), .ref (oL)]) C hG (hM) hBo (ci := 0) rfl (lw_V q920 q921 q922 q51 q923) ⟨rfl, hdX1_move⟩ rfl hl.1 rfl (Nat.le_of_ble_eq_true rfl) ⟨show dd + 1 ≤ 15 from by omega, show 8 + (6 + 11) + 64 * dd ≤ 64 * 15 from by omega⟩ dX0_move_9) (by omega) (by omega) (fun z_ H1 hp_ => ?_)
  obtain ⟨hF1, ho1, hzr⟩ := hk _ _ hp_
  have hG := hG.kept hF1
  have hA := hA.kept ho1
  refine pb_i2l C dX0_move_12 (x := z_) (by omega) ?_
  refine pb_last C hA (i := 0) (by omega) (by omega) dX0_move_13 fun H1_ hu_ hA => ?_
  have hG := hG.kept (hu_.z (by omega))
  refine pb_goto C dX0_move_14 (tgt := 25) (by decide) ?_
  refine pb_ic C dX0_move_25 ?_
  exact pb_iret C dX0_move_26 (⟨_, rfl, rfl, _, _, _, hp_, hA, hu_⟩)

set_option maxHeartbeats 1000000 in
theorem mex_X0_move_1 {w : pb_W} (l : Launch) {H : Heap} (b oL : Nat) (fs : List Value) (hBo : pb_R w H b 0 fs) (a1 : Int) (a2 : Int) (a3 : Int) (a4 : Int) (dd mc ms : Nat) (hd : dd ≤ 14) (hM : pb_X w l yX1_move cX1_move 6 (some .int) dd mc ms [.ref b, .int (iZ a1), .int (iZ a2), .int (iZ a3), .int (iZ a4)] H RJ9) : pb_MW w l yX0_move cX0_move 7 (some .int) [(0, 14, 17, 13), (0, 14, 21, 15)] 15 (mc) (ms) [.ref (b), .int (iZ (a1)), .int (iZ (a2)), .int (iZ (a3)), .int (iZ (a4)), .ref (oL)] H (pb_qi (fun k H1 => k = 1 ∧ pb_F (fun _ => True) H H1)) := by
  refine pb_ofWH (by decide +kernel) (Nat.le_of_ble_eq_true rfl) ?_
  intro p_ e_ s_ m_ ar_ bl_ me_ co_ ls C hh hG hl hT hN
  have hl : lv_has ls 7 [(0, .ref (b)), (1, .int (iZ (a1))), (2, .int (iZ (a2))), (3, .int (iZ (a3))), (4, .int (iZ (a4))), (5, .ref (oL))] := hl
  refine pb_aload C dX0_move_0 (lv_at hl 5 rfl) ?_
  refine pb_ic C dX0_move_2 ?_
  refine pb_aload_n C dX0_move_3 rfl (lv_at hl 0 rfl) ?_
  refine pb_iload_n C dX0_move_4 rfl (lv_at hl 1 rfl) ?_
  refine pb_iload_n C dX0_move_5 rfl (lv_at hl 2 rfl) ?_
  refine pb_iload_n C dX0_move_6 rfl (lv_at hl 3 rfl) ?_
  refine pb_iload C dX0_move_7 (lv_at hl 4 rfl) ?_
  refine pb_catch (bc' := mc - mc) (bs' := ms - ms) C (pb_runVX (rest := [.int (iZ (0)), .ref (oL)]) C hG (hM) hBo (ci := 0) rfl (lw_V q920 q921 q922 q51 q923) ⟨rfl, hdX1_move⟩ rfl hl.1 rfl (Nat.le_of_ble_eq_true rfl) ⟨show dd + 1 ≤ 15 from by omega, show 8 + (6 + 11) + 64 * dd ≤ 64 * 15 from by omega⟩ dX0_move_9) (by omega) (by omega) [] ⟨0, 14, 17, 13⟩ [⟨0, 14, 21, 15⟩] hT (fun z9 h9 => absurd h9 List.not_mem_nil) (by decide) (by decide) q241 q337 fun q9 H1 hF1 => ?_
  refine pb_astore C dX0_move_17 hl (by decide) rfl fun ls hl => ?_
  have hl : lv_has ls 7 [(6, .ref (q9)), (0, .ref (b)), (1, .int (iZ (a1))), (2, .int (iZ (a2))), (3, .int (iZ (a3))), (4, .int (iZ (a4))), (5, .ref (oL))] := hl
  refine pb_ic C dX0_move_19 ?_
  exact pb_iret C dX0_move_20 (⟨_, rfl, rfl, hF1⟩)

set_option maxHeartbeats 1000000 in
theorem mex_X0_move_2 {w : pb_W} (l : Launch) {H : Heap} (b oL : Nat) (fs : List Value) (hBo : pb_R w H b 0 fs) (a1 : Int) (a2 : Int) (a3 : Int) (a4 : Int) (dd mc ms : Nat) (hd : dd ≤ 14) (hM : pb_X w l yX1_move cX1_move 6 (some .int) dd mc ms [.ref b, .int (iZ a1), .int (iZ a2), .int (iZ a3), .int (iZ a4)] H RJ14) : pb_MW w l yX0_move cX0_move 7 (some .int) [(0, 14, 17, 13), (0, 14, 21, 15)] 15 (mc) (ms) [.ref (b), .int (iZ (a1)), .int (iZ (a2)), .int (iZ (a3)), .int (iZ (a4)), .ref (oL)] H (pb_qi (fun k H1 => k = 2 ∧ pb_F (fun _ => True) H H1)) := by
  refine pb_ofWH (by decide +kernel) (Nat.le_of_ble_eq_true rfl) ?_
  intro p_ e_ s_ m_ ar_ bl_ me_ co_ ls C hh hG hl hT hN
  have hl : lv_has ls 7 [(0, .ref (b)), (1, .int (iZ (a1))), (2, .int (iZ (a2))), (3, .int (iZ (a3))), (4, .int (iZ (a4))), (5, .ref (oL))] := hl
  refine pb_aload C dX0_move_0 (lv_at hl 5 rfl) ?_
  refine pb_ic C dX0_move_2 ?_
  refine pb_aload_n C dX0_move_3 rfl (lv_at hl 0 rfl) ?_
  refine pb_iload_n C dX0_move_4 rfl (lv_at hl 1 rfl) ?_
  refine pb_iload_n C dX0_move_5 rfl (lv_at hl 2 rfl) ?_
  refine pb_iload_n C dX0_move_6 rfl (lv_at hl 3 rfl) ?_
  refine pb_iload C dX0_move_7 (lv_at hl 4 rfl) ?_
  refine pb_catch (bc' := mc - mc) (bs' := ms - ms) C (pb_runVX (rest := [.int (iZ (0)), .ref (oL)]) C hG (hM) hBo (ci := 0) rfl (lw_V q920 q921 q922 q51 q923) ⟨rfl, hdX1_move⟩ rfl hl.1 rfl (Nat.le_of_ble_eq_true rfl) ⟨show dd + 1 ≤ 15 from by omega, show 8 + (6 + 11) + 64 * dd ≤ 64 * 15 from by omega⟩ dX0_move_9) (by omega) (by omega) [⟨0, 14, 17, 13⟩] ⟨0, 14, 21, 15⟩ [] hT (List.forall_mem_cons.mpr ⟨⟨by decide, "java/lang/IndexOutOfBoundsException", q241, hN ("java/lang/IllegalArgumentException", "java/lang/IndexOutOfBoundsException") (by decide)⟩, (fun z9 h9 => absurd h9 List.not_mem_nil)⟩) (by decide) (by decide) q320 q386 fun q9 H1 hF1 => ?_
  refine pb_astore C dX0_move_21 hl (by decide) rfl fun ls hl => ?_
  have hl : lv_has ls 7 [(6, .ref (q9)), (0, .ref (b)), (1, .int (iZ (a1))), (2, .int (iZ (a2))), (3, .int (iZ (a3))), (4, .int (iZ (a4))), (5, .ref (oL))] := hl
  refine pb_ic C dX0_move_23 ?_
  exact pb_iret C dX0_move_24 (⟨_, rfl, rfl, hF1⟩)

set_option maxHeartbeats 1000000 in
theorem met_X0_turn {w : pb_W} (l : Launch) {H : Heap} (b oL : Nat) (fs : List Value) (hBo : pb_R w H b 0 fs) (a1 : Int) (a2 : Int) (dd mc ms : Nat) (post : Int → Heap → Prop) (g0 : Nat → Value) (hd : dd ≤ 14) (hM : pb_M w l yX1_turn cX1_turn 3 (some .int) dd mc ms [.ref b, .int (iZ a1), .int (iZ a2)] H (pb_qi post)) (hk : ∀ z H1, post z H1 → pb_F (fun q => q < w.2.2.2) H H1 ∧ H1[oL]? = H[oL]? ∧ -2147483648 ≤ z ∧ z ≤ 2147483647) (hA : pb_A w H oL 2 1 g0) (hz : w.2.2.2 ≤ oL) : pb_MW w l yX0_turn cX0_turn 5 (some .int) [(0, 10, 13, 13)] 15 (mc) (ms) [.ref (b), .int (iZ (a1)), .int (iZ (a2)), .ref (oL)] H (pb_qi (fun k H2 => k = 0 ∧ ∃ z H1 g, post z H1 ∧ pb_A w H2 oL 2 1 (updV g 0 (.long (lZ z))) ∧ pb_Up oL H1 H2)) := by
  refine pb_ofWH (by decide +kernel) (Nat.le_of_ble_eq_true rfl) ?_
  intro p_ e_ s_ m_ ar_ bl_ me_ co_ ls C hh hG hl hT hN
  have hl : lv_has ls 5 [(0, .ref (b)), (1, .int (iZ (a1))), (2, .int (iZ (a2))), (3, .ref (oL))] := hl
  refine pb_aload_n C dX0_turn_0 rfl (lv_at hl 3 rfl) ?_
  refine pb_ic C dX0_turn_1 ?_
  refine pb_aload_n C dX0_turn_2 rfl (lv_at hl 0 rfl) ?_
  refine pb_iload_n C dX0_turn_3 rfl (lv_at hl 1 rfl) ?_
  refine pb_iload_n C dX0_turn_4 rfl (lv_at hl 2 rfl) ?_
  refine pb_go_i (bc' := mc - mc) (bs' := ms - ms) (pb_runV (rest := [.int (iZ (0)), .ref (oL)]) C hG (hM) hBo (ci := 0) rfl (lw_V q936 q937 q938 q51 q939) ⟨rfl, hdX1_turn⟩ rfl hl.1 rfl (Nat.le_of_ble_eq_true rfl) ⟨show dd + 1 ≤ 15 from by omega, show 8 + (3 + 11) + 64 * dd ≤ 64 * 15 from by omega⟩ dX0_turn_5) (by omega) (by omega) (fun z_ H1 hp_ => ?_)
  obtain ⟨hF1, ho1, hzr⟩ := hk _ _ hp_
  have hG := hG.kept hF1
  have hA := hA.kept ho1
  refine pb_i2l C dX0_turn_8 (x := z_) (by omega) ?_
  refine pb_last C hA (i := 0) (by omega) (by omega) dX0_turn_9 fun H1_ hu_ hA => ?_
  have hG := hG.kept (hu_.z (by omega))
  refine pb_goto C dX0_turn_10 (tgt := 17) (by decide) ?_
  refine pb_ic C dX0_turn_17 ?_
  exact pb_iret C dX0_turn_18 (⟨_, rfl, rfl, _, _, _, hp_, hA, hu_⟩)

set_option maxHeartbeats 1000000 in
theorem mex_X0_turn_1 {w : pb_W} (l : Launch) {H : Heap} (b oL : Nat) (fs : List Value) (hBo : pb_R w H b 0 fs) (a1 : Int) (a2 : Int) (dd mc ms : Nat) (hd : dd ≤ 14) (hM : pb_X w l yX1_turn cX1_turn 3 (some .int) dd mc ms [.ref b, .int (iZ a1), .int (iZ a2)] H RJ9) : pb_MW w l yX0_turn cX0_turn 5 (some .int) [(0, 10, 13, 13)] 15 (mc) (ms) [.ref (b), .int (iZ (a1)), .int (iZ (a2)), .ref (oL)] H (pb_qi (fun k H1 => k = 1 ∧ pb_F (fun _ => True) H H1)) := by
  refine pb_ofWH (by decide +kernel) (Nat.le_of_ble_eq_true rfl) ?_
  intro p_ e_ s_ m_ ar_ bl_ me_ co_ ls C hh hG hl hT hN
  have hl : lv_has ls 5 [(0, .ref (b)), (1, .int (iZ (a1))), (2, .int (iZ (a2))), (3, .ref (oL))] := hl
  refine pb_aload_n C dX0_turn_0 rfl (lv_at hl 3 rfl) ?_
  refine pb_ic C dX0_turn_1 ?_
  refine pb_aload_n C dX0_turn_2 rfl (lv_at hl 0 rfl) ?_
  refine pb_iload_n C dX0_turn_3 rfl (lv_at hl 1 rfl) ?_
  refine pb_iload_n C dX0_turn_4 rfl (lv_at hl 2 rfl) ?_
  refine pb_catch (bc' := mc - mc) (bs' := ms - ms) C (pb_runVX (rest := [.int (iZ (0)), .ref (oL)]) C hG (hM) hBo (ci := 0) rfl (lw_V q936 q937 q938 q51 q939) ⟨rfl, hdX1_turn⟩ rfl hl.1 rfl (Nat.le_of_ble_eq_true rfl) ⟨show dd + 1 ≤ 15 from by omega, show 8 + (3 + 11) + 64 * dd ≤ 64 * 15 from by omega⟩ dX0_turn_5) (by omega) (by omega) [] ⟨0, 10, 13, 13⟩ [] hT (fun z9 h9 => absurd h9 List.not_mem_nil) (by decide) (by decide) q241 q337 fun q9 H1 hF1 => ?_
  refine pb_astore C dX0_turn_13 hl (by decide) rfl fun ls hl => ?_
  have hl : lv_has ls 5 [(4, .ref (q9)), (0, .ref (b)), (1, .int (iZ (a1))), (2, .int (iZ (a2))), (3, .ref (oL))] := hl
  refine pb_ic C dX0_turn_15 ?_
  exact pb_iret C dX0_turn_16 (⟨_, rfl, rfl, hF1⟩)

set_option maxHeartbeats 1000000 in
theorem met_X0_mirror {w : pb_W} (l : Launch) {H : Heap} (b oL : Nat) (fs : List Value) (hBo : pb_R w H b 0 fs) (a1 : Int) (a2 : Int) (dd mc ms : Nat) (post : Int → Heap → Prop) (g0 : Nat → Value) (hd : dd ≤ 14) (hM : pb_M w l yX1_mirror cX1_mirror 3 (some .int) dd mc ms [.ref b, .int (iZ a1), .int (iZ a2)] H (pb_qi post)) (hk : ∀ z H1, post z H1 → pb_F (fun q => q < w.2.2.2) H H1 ∧ H1[oL]? = H[oL]? ∧ -2147483648 ≤ z ∧ z ≤ 2147483647) (hA : pb_A w H oL 2 1 g0) (hz : w.2.2.2 ≤ oL) : pb_MW w l yX0_mirror cX0_mirror 5 (some .int) [(0, 10, 13, 13)] 15 (mc) (ms) [.ref (b), .int (iZ (a1)), .int (iZ (a2)), .ref (oL)] H (pb_qi (fun k H2 => k = 0 ∧ ∃ z H1 g, post z H1 ∧ pb_A w H2 oL 2 1 (updV g 0 (.long (lZ z))) ∧ pb_Up oL H1 H2)) := by
  refine pb_ofWH (by decide +kernel) (Nat.le_of_ble_eq_true rfl) ?_
  intro p_ e_ s_ m_ ar_ bl_ me_ co_ ls C hh hG hl hT hN
  have hl : lv_has ls 5 [(0, .ref (b)), (1, .int (iZ (a1))), (2, .int (iZ (a2))), (3, .ref (oL))] := hl
  refine pb_aload_n C dX0_mirror_0 rfl (lv_at hl 3 rfl) ?_
  refine pb_ic C dX0_mirror_1 ?_
  refine pb_aload_n C dX0_mirror_2 rfl (lv_at hl 0 rfl) ?_
  refine pb_iload_n C dX0_mirror_3 rfl (lv_at hl 1 rfl) ?_
  refine pb_iload_n C dX0_mirror_4 rfl (lv_at hl 2 rfl) ?_
  refine pb_go_i (bc' := mc - mc) (bs' := ms - ms) (pb_runV (rest := [.int (iZ (0)), .ref (oL)]) C hG (hM) hBo (ci := 0) rfl (lw_V q952 q953 q954 q51 q955) ⟨rfl, hdX1_mirror⟩ rfl hl.1 rfl (Nat.le_of_ble_eq_true rfl) ⟨show dd + 1 ≤ 15 from by omega, show 8 + (3 + 11) + 64 * dd ≤ 64 * 15 from by omega⟩ dX0_mirror_5) (by omega) (by omega) (fun z_ H1 hp_ => ?_)
  obtain ⟨hF1, ho1, hzr⟩ := hk _ _ hp_
  have hG := hG.kept hF1
  have hA := hA.kept ho1
  refine pb_i2l C dX0_mirror_8 (x := z_) (by omega) ?_
  refine pb_last C hA (i := 0) (by omega) (by omega) dX0_mirror_9 fun H1_ hu_ hA => ?_
  have hG := hG.kept (hu_.z (by omega))
  refine pb_goto C dX0_mirror_10 (tgt := 17) (by decide) ?_
  refine pb_ic C dX0_mirror_17 ?_
  exact pb_iret C dX0_mirror_18 (⟨_, rfl, rfl, _, _, _, hp_, hA, hu_⟩)

set_option maxHeartbeats 1000000 in
theorem mex_X0_mirror_1 {w : pb_W} (l : Launch) {H : Heap} (b oL : Nat) (fs : List Value) (hBo : pb_R w H b 0 fs) (a1 : Int) (a2 : Int) (dd mc ms : Nat) (hd : dd ≤ 14) (hM : pb_X w l yX1_mirror cX1_mirror 3 (some .int) dd mc ms [.ref b, .int (iZ a1), .int (iZ a2)] H RJ9) : pb_MW w l yX0_mirror cX0_mirror 5 (some .int) [(0, 10, 13, 13)] 15 (mc) (ms) [.ref (b), .int (iZ (a1)), .int (iZ (a2)), .ref (oL)] H (pb_qi (fun k H1 => k = 1 ∧ pb_F (fun _ => True) H H1)) := by
  refine pb_ofWH (by decide +kernel) (Nat.le_of_ble_eq_true rfl) ?_
  intro p_ e_ s_ m_ ar_ bl_ me_ co_ ls C hh hG hl hT hN
  have hl : lv_has ls 5 [(0, .ref (b)), (1, .int (iZ (a1))), (2, .int (iZ (a2))), (3, .ref (oL))] := hl
  refine pb_aload_n C dX0_mirror_0 rfl (lv_at hl 3 rfl) ?_
  refine pb_ic C dX0_mirror_1 ?_
  refine pb_aload_n C dX0_mirror_2 rfl (lv_at hl 0 rfl) ?_
  refine pb_iload_n C dX0_mirror_3 rfl (lv_at hl 1 rfl) ?_
  refine pb_iload_n C dX0_mirror_4 rfl (lv_at hl 2 rfl) ?_
  refine pb_catch (bc' := mc - mc) (bs' := ms - ms) C (pb_runVX (rest := [.int (iZ (0)), .ref (oL)]) C hG (hM) hBo (ci := 0) rfl (lw_V q952 q953 q954 q51 q955) ⟨rfl, hdX1_mirror⟩ rfl hl.1 rfl (Nat.le_of_ble_eq_true rfl) ⟨show dd + 1 ≤ 15 from by omega, show 8 + (3 + 11) + 64 * dd ≤ 64 * 15 from by omega⟩ dX0_mirror_5) (by omega) (by omega) [] ⟨0, 10, 13, 13⟩ [] hT (fun z9 h9 => absurd h9 List.not_mem_nil) (by decide) (by decide) q241 q337 fun q9 H1 hF1 => ?_
  refine pb_astore C dX0_mirror_13 hl (by decide) rfl fun ls hl => ?_
  have hl : lv_has ls 5 [(4, .ref (q9)), (0, .ref (b)), (1, .int (iZ (a1))), (2, .int (iZ (a2))), (3, .ref (oL))] := hl
  refine pb_ic C dX0_mirror_15 ?_
  exact pb_iret C dX0_mirror_16 (⟨_, rfl, rfl, hF1⟩)

set_option maxHeartbeats 1000000 in
theorem met_X0_fillHoles {w : pb_W} (l : Launch) {H : Heap} (b oL : Nat) (fs : List Value) (hBo : pb_R w H b 0 fs) (a1 : Int) (a2 : Int) (dd mc ms : Nat) (post : Int → Heap → Prop) (g0 : Nat → Value) (hd : dd ≤ 14) (hM : pb_M w l yX1_fillHoles cX1_fillHoles 5 (some .int) dd mc ms [.ref b, .int (iZ a1), .int (iZ a2)] H (pb_qi post)) (hk : ∀ z H1, post z H1 → pb_F (fun q => q < w.2.2.2) H H1 ∧ H1[oL]? = H[oL]? ∧ -2147483648 ≤ z ∧ z ≤ 2147483647) (hA : pb_A w H oL 2 1 g0) (hz : w.2.2.2 ≤ oL) : pb_MW w l yX0_fillHoles cX0_fillHoles 5 (some .int) [(0, 10, 13, 13)] 15 (mc) (ms) [.ref (b), .int (iZ (a1)), .int (iZ (a2)), .ref (oL)] H (pb_qi (fun k H2 => k = 0 ∧ ∃ z H1 g, post z H1 ∧ pb_A w H2 oL 2 1 (updV g 0 (.long (lZ z))) ∧ pb_Up oL H1 H2)) := by
  refine pb_ofWH (by decide +kernel) (Nat.le_of_ble_eq_true rfl) ?_
  intro p_ e_ s_ m_ ar_ bl_ me_ co_ ls C hh hG hl hT hN
  have hl : lv_has ls 5 [(0, .ref (b)), (1, .int (iZ (a1))), (2, .int (iZ (a2))), (3, .ref (oL))] := hl
  refine pb_aload_n C dX0_fillHoles_0 rfl (lv_at hl 3 rfl) ?_
  refine pb_ic C dX0_fillHoles_1 ?_
  refine pb_aload_n C dX0_fillHoles_2 rfl (lv_at hl 0 rfl) ?_
  refine pb_iload_n C dX0_fillHoles_3 rfl (lv_at hl 1 rfl) ?_
  refine pb_iload_n C dX0_fillHoles_4 rfl (lv_at hl 2 rfl) ?_
  refine pb_go_i (bc' := mc - mc) (bs' := ms - ms) (pb_runV (rest := [.int (iZ (0)), .ref (oL)]) C hG (hM) hBo (ci := 0) rfl (lw_V q967 q968 q969 q51 q970) ⟨rfl, hdX1_fillHoles⟩ rfl hl.1 rfl (Nat.le_of_ble_eq_true rfl) ⟨show dd + 1 ≤ 15 from by omega, show 8 + (5 + 11) + 64 * dd ≤ 64 * 15 from by omega⟩ dX0_fillHoles_5) (by omega) (by omega) (fun z_ H1 hp_ => ?_)
  obtain ⟨hF1, ho1, hzr⟩ := hk _ _ hp_
  have hG := hG.kept hF1
  have hA := hA.kept ho1
  refine pb_i2l C dX0_fillHoles_8 (x := z_) (by omega) ?_
  refine pb_last C hA (i := 0) (by omega) (by omega) dX0_fillHoles_9 fun H1_ hu_ hA => ?_
  have hG := hG.kept (hu_.z (by omega))
  refine pb_goto C dX0_fillHoles_10 (tgt := 17) (by decide) ?_
  refine pb_ic C dX0_fillHoles_17 ?_
  exact pb_iret C dX0_fillHoles_18 (⟨_, rfl, rfl, _, _, _, hp_, hA, hu_⟩)

set_option maxHeartbeats 1000000 in
theorem mex_X0_fillHoles_1 {w : pb_W} (l : Launch) {H : Heap} (b oL : Nat) (fs : List Value) (hBo : pb_R w H b 0 fs) (a1 : Int) (a2 : Int) (dd mc ms : Nat) (hd : dd ≤ 14) (hM : pb_X w l yX1_fillHoles cX1_fillHoles 5 (some .int) dd mc ms [.ref b, .int (iZ a1), .int (iZ a2)] H RJ9) : pb_MW w l yX0_fillHoles cX0_fillHoles 5 (some .int) [(0, 10, 13, 13)] 15 (mc) (ms) [.ref (b), .int (iZ (a1)), .int (iZ (a2)), .ref (oL)] H (pb_qi (fun k H1 => k = 1 ∧ pb_F (fun _ => True) H H1)) := by
  refine pb_ofWH (by decide +kernel) (Nat.le_of_ble_eq_true rfl) ?_
  intro p_ e_ s_ m_ ar_ bl_ me_ co_ ls C hh hG hl hT hN
  have hl : lv_has ls 5 [(0, .ref (b)), (1, .int (iZ (a1))), (2, .int (iZ (a2))), (3, .ref (oL))] := hl
  refine pb_aload_n C dX0_fillHoles_0 rfl (lv_at hl 3 rfl) ?_
  refine pb_ic C dX0_fillHoles_1 ?_
  refine pb_aload_n C dX0_fillHoles_2 rfl (lv_at hl 0 rfl) ?_
  refine pb_iload_n C dX0_fillHoles_3 rfl (lv_at hl 1 rfl) ?_
  refine pb_iload_n C dX0_fillHoles_4 rfl (lv_at hl 2 rfl) ?_
  refine pb_catch (bc' := mc - mc) (bs' := ms - ms) C (pb_runVX (rest := [.int (iZ (0)), .ref (oL)]) C hG (hM) hBo (ci := 0) rfl (lw_V q967 q968 q969 q51 q970) ⟨rfl, hdX1_fillHoles⟩ rfl hl.1 rfl (Nat.le_of_ble_eq_true rfl) ⟨show dd + 1 ≤ 15 from by omega, show 8 + (5 + 11) + 64 * dd ≤ 64 * 15 from by omega⟩ dX0_fillHoles_5) (by omega) (by omega) [] ⟨0, 10, 13, 13⟩ [] hT (fun z9 h9 => absurd h9 List.not_mem_nil) (by decide) (by decide) q241 q337 fun q9 H1 hF1 => ?_
  refine pb_astore C dX0_fillHoles_13 hl (by decide) rfl fun ls hl => ?_
  have hl : lv_has ls 5 [(4, .ref (q9)), (0, .ref (b)), (1, .int (iZ (a1))), (2, .int (iZ (a2))), (3, .ref (oL))] := hl
  refine pb_ic C dX0_fillHoles_15 ?_
  exact pb_iret C dX0_fillHoles_16 (⟨_, rfl, rfl, hF1⟩)

set_option maxHeartbeats 1000000 in
theorem met_X0_keepPart {w : pb_W} (l : Launch) {H : Heap} (b oL : Nat) (fs : List Value) (hBo : pb_R w H b 0 fs) (a1 : Int) (a2 : Int) (a3 : Int) (a4 : Int) (dd mc ms : Nat) (post : Int → Heap → Prop) (g0 : Nat → Value) (hd : dd ≤ 14) (hM : pb_M w l yX1_keepPart cX1_keepPart 8 (some .int) dd mc ms [.ref b, .int (iZ a1), .int (iZ a2), .int (iZ a3), .int (iZ a4)] H (pb_qi post)) (hk : ∀ z H1, post z H1 → pb_F (fun q => q < w.2.2.2) H H1 ∧ H1[oL]? = H[oL]? ∧ -2147483648 ≤ z ∧ z ≤ 2147483647) (hA : pb_A w H oL 2 1 g0) (hz : w.2.2.2 ≤ oL) : pb_MW w l yX0_keepPart cX0_keepPart 7 (some .int) [(0, 14, 17, 13), (0, 14, 21, 15), (0, 14, 25, 64)] 15 (mc) (ms) [.ref (b), .int (iZ (a1)), .int (iZ (a2)), .int (iZ (a3)), .int (iZ (a4)), .ref (oL)] H (pb_qi (fun k H2 => k = 0 ∧ ∃ z H1 g, post z H1 ∧ pb_A w H2 oL 2 1 (updV g 0 (.long (lZ z))) ∧ pb_Up oL H1 H2)) := by
  refine pb_ofWH (by decide +kernel) (Nat.le_of_ble_eq_true rfl) ?_
  intro p_ e_ s_ m_ ar_ bl_ me_ co_ ls C hh hG hl hT hN
  have hl : lv_has ls 7 [(0, .ref (b)), (1, .int (iZ (a1))), (2, .int (iZ (a2))), (3, .int (iZ (a3))), (4, .int (iZ (a4))), (5, .ref (oL))] := hl
  refine pb_aload C dX0_keepPart_0 (lv_at hl 5 rfl) ?_
  refine pb_ic C dX0_keepPart_2 ?_
  refine pb_aload_n C dX0_keepPart_3 rfl (lv_at hl 0 rfl) ?_
  refine pb_iload_n C dX0_keepPart_4 rfl (lv_at hl 1 rfl) ?_
  refine pb_iload_n C dX0_keepPart_5 rfl (lv_at hl 2 rfl) ?_
  refine pb_iload_n C dX0_keepPart_6 rfl (lv_at hl 3 rfl) ?_
  refine pb_iload C dX0_keepPart_7 (lv_at hl 4 rfl) ?_
  refine pb_go_i (bc' := mc - mc) (bs' := ms - ms) (pb_runV (rest := [.int (iZ (0)), .ref (oL)]) C hG (hM) hBo (ci := 0) rfl (lw_V q1046 q1047 q1048 q51 q1049) ⟨rfl, hdX1_keepPart⟩ rfl hl.1 rfl (Nat.le_of_ble_eq_true rfl) ⟨show dd + 1 ≤ 15 from by omega, show 8 + (8 + 11) + 64 * dd ≤ 64 * 15 from by omega⟩ dX0_keepPart_9) (by omega) (by omega) (fun z_ H1 hp_ => ?_)
  obtain ⟨hF1, ho1, hzr⟩ := hk _ _ hp_
  have hG := hG.kept hF1
  have hA := hA.kept ho1
  refine pb_i2l C dX0_keepPart_12 (x := z_) (by omega) ?_
  refine pb_last C hA (i := 0) (by omega) (by omega) dX0_keepPart_13 fun H1_ hu_ hA => ?_
  have hG := hG.kept (hu_.z (by omega))
  refine pb_goto C dX0_keepPart_14 (tgt := 29) (by decide) ?_
  refine pb_ic C dX0_keepPart_29 ?_
  exact pb_iret C dX0_keepPart_30 (⟨_, rfl, rfl, _, _, _, hp_, hA, hu_⟩)

set_option maxHeartbeats 1000000 in
theorem mex_X0_keepPart_1 {w : pb_W} (l : Launch) {H : Heap} (b oL : Nat) (fs : List Value) (hBo : pb_R w H b 0 fs) (a1 : Int) (a2 : Int) (a3 : Int) (a4 : Int) (dd mc ms : Nat) (hd : dd ≤ 14) (hM : pb_X w l yX1_keepPart cX1_keepPart 8 (some .int) dd mc ms [.ref b, .int (iZ a1), .int (iZ a2), .int (iZ a3), .int (iZ a4)] H RJ9) : pb_MW w l yX0_keepPart cX0_keepPart 7 (some .int) [(0, 14, 17, 13), (0, 14, 21, 15), (0, 14, 25, 64)] 15 (mc) (ms) [.ref (b), .int (iZ (a1)), .int (iZ (a2)), .int (iZ (a3)), .int (iZ (a4)), .ref (oL)] H (pb_qi (fun k H1 => k = 1 ∧ pb_F (fun _ => True) H H1)) := by
  refine pb_ofWH (by decide +kernel) (Nat.le_of_ble_eq_true rfl) ?_
  intro p_ e_ s_ m_ ar_ bl_ me_ co_ ls C hh hG hl hT hN
  have hl : lv_has ls 7 [(0, .ref (b)), (1, .int (iZ (a1))), (2, .int (iZ (a2))), (3, .int (iZ (a3))), (4, .int (iZ (a4))), (5, .ref (oL))] := hl
  refine pb_aload C dX0_keepPart_0 (lv_at hl 5 rfl) ?_
  refine pb_ic C dX0_keepPart_2 ?_
  refine pb_aload_n C dX0_keepPart_3 rfl (lv_at hl 0 rfl) ?_
  refine pb_iload_n C dX0_keepPart_4 rfl (lv_at hl 1 rfl) ?_
  refine pb_iload_n C dX0_keepPart_5 rfl (lv_at hl 2 rfl) ?_
  refine pb_iload_n C dX0_keepPart_6 rfl (lv_at hl 3 rfl) ?_
  refine pb_iload C dX0_keepPart_7 (lv_at hl 4 rfl) ?_
  refine pb_catch (bc' := mc - mc) (bs' := ms - ms) C (pb_runVX (rest := [.int (iZ (0)), .ref (oL)]) C hG (hM) hBo (ci := 0) rfl (lw_V q1046 q1047 q1048 q51 q1049) ⟨rfl, hdX1_keepPart⟩ rfl hl.1 rfl (Nat.le_of_ble_eq_true rfl) ⟨show dd + 1 ≤ 15 from by omega, show 8 + (8 + 11) + 64 * dd ≤ 64 * 15 from by omega⟩ dX0_keepPart_9) (by omega) (by omega) [] ⟨0, 14, 17, 13⟩ [⟨0, 14, 21, 15⟩, ⟨0, 14, 25, 64⟩] hT (fun z9 h9 => absurd h9 List.not_mem_nil) (by decide) (by decide) q241 q337 fun q9 H1 hF1 => ?_
  refine pb_astore C dX0_keepPart_17 hl (by decide) rfl fun ls hl => ?_
  have hl : lv_has ls 7 [(6, .ref (q9)), (0, .ref (b)), (1, .int (iZ (a1))), (2, .int (iZ (a2))), (3, .int (iZ (a3))), (4, .int (iZ (a4))), (5, .ref (oL))] := hl
  refine pb_ic C dX0_keepPart_19 ?_
  exact pb_iret C dX0_keepPart_20 (⟨_, rfl, rfl, hF1⟩)

set_option maxHeartbeats 1000000 in
theorem mex_X0_keepPart_2 {w : pb_W} (l : Launch) {H : Heap} (b oL : Nat) (fs : List Value) (hBo : pb_R w H b 0 fs) (a1 : Int) (a2 : Int) (a3 : Int) (a4 : Int) (dd mc ms : Nat) (hd : dd ≤ 14) (hM : pb_X w l yX1_keepPart cX1_keepPart 8 (some .int) dd mc ms [.ref b, .int (iZ a1), .int (iZ a2), .int (iZ a3), .int (iZ a4)] H RJ14) : pb_MW w l yX0_keepPart cX0_keepPart 7 (some .int) [(0, 14, 17, 13), (0, 14, 21, 15), (0, 14, 25, 64)] 15 (mc) (ms) [.ref (b), .int (iZ (a1)), .int (iZ (a2)), .int (iZ (a3)), .int (iZ (a4)), .ref (oL)] H (pb_qi (fun k H1 => k = 2 ∧ pb_F (fun _ => True) H H1)) := by
  refine pb_ofWH (by decide +kernel) (Nat.le_of_ble_eq_true rfl) ?_
  intro p_ e_ s_ m_ ar_ bl_ me_ co_ ls C hh hG hl hT hN
  have hl : lv_has ls 7 [(0, .ref (b)), (1, .int (iZ (a1))), (2, .int (iZ (a2))), (3, .int (iZ (a3))), (4, .int (iZ (a4))), (5, .ref (oL))] := hl
  refine pb_aload C dX0_keepPart_0 (lv_at hl 5 rfl) ?_
  refine pb_ic C dX0_keepPart_2 ?_
  refine pb_aload_n C dX0_keepPart_3 rfl (lv_at hl 0 rfl) ?_
  refine pb_iload_n C dX0_keepPart_4 rfl (lv_at hl 1 rfl) ?_
  refine pb_iload_n C dX0_keepPart_5 rfl (lv_at hl 2 rfl) ?_
  refine pb_iload_n C dX0_keepPart_6 rfl (lv_at hl 3 rfl) ?_
  refine pb_iload C dX0_keepPart_7 (lv_at hl 4 rfl) ?_
  refine pb_catch (bc' := mc - mc) (bs' := ms - ms) C (pb_runVX (rest := [.int (iZ (0)), .ref (oL)]) C hG (hM) hBo (ci := 0) rfl (lw_V q1046 q1047 q1048 q51 q1049) ⟨rfl, hdX1_keepPart⟩ rfl hl.1 rfl (Nat.le_of_ble_eq_true rfl) ⟨show dd + 1 ≤ 15 from by omega, show 8 + (8 + 11) + 64 * dd ≤ 64 * 15 from by omega⟩ dX0_keepPart_9) (by omega) (by omega) [⟨0, 14, 17, 13⟩] ⟨0, 14, 21, 15⟩ [⟨0, 14, 25, 64⟩] hT (List.forall_mem_cons.mpr ⟨⟨by decide, "java/lang/IndexOutOfBoundsException", q241, hN ("java/lang/IllegalArgumentException", "java/lang/IndexOutOfBoundsException") (by decide)⟩, (fun z9 h9 => absurd h9 List.not_mem_nil)⟩) (by decide) (by decide) q320 q386 fun q9 H1 hF1 => ?_
  refine pb_astore C dX0_keepPart_21 hl (by decide) rfl fun ls hl => ?_
  have hl : lv_has ls 7 [(6, .ref (q9)), (0, .ref (b)), (1, .int (iZ (a1))), (2, .int (iZ (a2))), (3, .int (iZ (a3))), (4, .int (iZ (a4))), (5, .ref (oL))] := hl
  refine pb_ic C dX0_keepPart_23 ?_
  exact pb_iret C dX0_keepPart_24 (⟨_, rfl, rfl, hF1⟩)

set_option maxHeartbeats 1000000 in
theorem mex_X0_keepPart_3 {w : pb_W} (l : Launch) {H : Heap} (b oL : Nat) (fs : List Value) (hBo : pb_R w H b 0 fs) (a1 : Int) (a2 : Int) (a3 : Int) (a4 : Int) (dd mc ms : Nat) (hd : dd ≤ 14) (hM : pb_X w l yX1_keepPart cX1_keepPart 8 (some .int) dd mc ms [.ref b, .int (iZ a1), .int (iZ a2), .int (iZ a3), .int (iZ a4)] H RJ16) : pb_MW w l yX0_keepPart cX0_keepPart 7 (some .int) [(0, 14, 17, 13), (0, 14, 21, 15), (0, 14, 25, 64)] 15 (mc) (ms) [.ref (b), .int (iZ (a1)), .int (iZ (a2)), .int (iZ (a3)), .int (iZ (a4)), .ref (oL)] H (pb_qi (fun k H1 => k = 3 ∧ pb_F (fun _ => True) H H1)) := by
  refine pb_ofWH (by decide +kernel) (Nat.le_of_ble_eq_true rfl) ?_
  intro p_ e_ s_ m_ ar_ bl_ me_ co_ ls C hh hG hl hT hN
  have hl : lv_has ls 7 [(0, .ref (b)), (1, .int (iZ (a1))), (2, .int (iZ (a2))), (3, .int (iZ (a3))), (4, .int (iZ (a4))), (5, .ref (oL))] := hl
  refine pb_aload C dX0_keepPart_0 (lv_at hl 5 rfl) ?_
  refine pb_ic C dX0_keepPart_2 ?_
  refine pb_aload_n C dX0_keepPart_3 rfl (lv_at hl 0 rfl) ?_
  refine pb_iload_n C dX0_keepPart_4 rfl (lv_at hl 1 rfl) ?_
  refine pb_iload_n C dX0_keepPart_5 rfl (lv_at hl 2 rfl) ?_
  refine pb_iload_n C dX0_keepPart_6 rfl (lv_at hl 3 rfl) ?_
  refine pb_iload C dX0_keepPart_7 (lv_at hl 4 rfl) ?_
  refine pb_catch (bc' := mc - mc) (bs' := ms - ms) C (pb_runVX (rest := [.int (iZ (0)), .ref (oL)]) C hG (hM) hBo (ci := 0) rfl (lw_V q1046 q1047 q1048 q51 q1049) ⟨rfl, hdX1_keepPart⟩ rfl hl.1 rfl (Nat.le_of_ble_eq_true rfl) ⟨show dd + 1 ≤ 15 from by omega, show 8 + (8 + 11) + 64 * dd ≤ 64 * 15 from by omega⟩ dX0_keepPart_9) (by omega) (by omega) [⟨0, 14, 17, 13⟩, ⟨0, 14, 21, 15⟩] ⟨0, 14, 25, 64⟩ [] hT (List.forall_mem_cons.mpr ⟨⟨by decide, "java/lang/IndexOutOfBoundsException", q241, hN ("java/util/NoSuchElementException", "java/lang/IndexOutOfBoundsException") (by decide)⟩, (List.forall_mem_cons.mpr ⟨⟨by decide, "java/lang/IllegalArgumentException", q320, hN ("java/util/NoSuchElementException", "java/lang/IllegalArgumentException") (by decide)⟩, (fun z9 h9 => absurd h9 List.not_mem_nil)⟩)⟩) (by decide) (by decide) q1045 q572 fun q9 H1 hF1 => ?_
  refine pb_astore C dX0_keepPart_25 hl (by decide) rfl fun ls hl => ?_
  have hl : lv_has ls 7 [(6, .ref (q9)), (0, .ref (b)), (1, .int (iZ (a1))), (2, .int (iZ (a2))), (3, .int (iZ (a3))), (4, .int (iZ (a4))), (5, .ref (oL))] := hl
  refine pb_ic C dX0_keepPart_27 ?_
  exact pb_iret C dX0_keepPart_28 (⟨_, rfl, rfl, hF1⟩)

set_option maxHeartbeats 1000000 in
theorem met_X0_contains {w : pb_W} (l : Launch) {H : Heap} (b oL : Nat) (fs : List Value) (hBo : pb_R w H b 0 fs) (a1 : Int) (a2 : Int) (a3 : Int) (dd mc ms : Nat) (post : Int → Heap → Prop) (g0 : Nat → Value) (hd : dd ≤ 14) (hM : pb_M w l yX1_contains cX1_contains 5 (some .boolean) dd mc ms [.ref b, .int (iZ a1), .int (iZ a2), .int (iZ a3)] H (pb_qi post)) (hk : ∀ z H1, post z H1 → pb_F (fun q => q < w.2.2.2) H H1 ∧ H1[oL]? = H[oL]? ∧ 0 ≤ z ∧ z ≤ 1) (hA : pb_A w H oL 2 1 g0) (hz : w.2.2.2 ≤ oL) : pb_MW w l yX0_contains cX0_contains 6 (some .int) [(0, 19, 22, 13), (0, 19, 26, 15)] 15 (mc) (ms) [.ref (b), .int (iZ (a1)), .int (iZ (a2)), .int (iZ (a3)), .ref (oL)] H (pb_qi (fun k H2 => k = 0 ∧ ∃ z H1 g, post z H1 ∧ pb_A w H2 oL 2 1 (updV g 0 (.long (lZ z))) ∧ pb_Up oL H1 H2)) := by
  refine pb_ofWH (by decide +kernel) (Nat.le_of_ble_eq_true rfl) ?_
  intro p_ e_ s_ m_ ar_ bl_ me_ co_ ls C hh hG hl hT hN
  have hl : lv_has ls 6 [(0, .ref (b)), (1, .int (iZ (a1))), (2, .int (iZ (a2))), (3, .int (iZ (a3))), (4, .ref (oL))] := hl
  refine pb_aload C dX0_contains_0 (lv_at hl 4 rfl) ?_
  refine pb_ic C dX0_contains_2 ?_
  refine pb_aload_n C dX0_contains_3 rfl (lv_at hl 0 rfl) ?_
  refine pb_iload_n C dX0_contains_4 rfl (lv_at hl 1 rfl) ?_
  refine pb_iload_n C dX0_contains_5 rfl (lv_at hl 2 rfl) ?_
  refine pb_iload_n C dX0_contains_6 rfl (lv_at hl 3 rfl) ?_
  refine pb_go_i (bc' := mc - mc) (bs' := ms - ms) (pb_runV (rest := [.int (iZ (0)), .ref (oL)]) C hG (hM) hBo (ci := 0) rfl (lw_V q1104 q1105 q1106 q51 q1107) ⟨rfl, hdX1_contains⟩ rfl hl.1 rfl (Nat.le_of_ble_eq_true rfl) ⟨show dd + 1 ≤ 15 from by omega, show 8 + (5 + 11) + 64 * dd ≤ 64 * 15 from by omega⟩ dX0_contains_7) (by omega) (by omega) (fun z_ H1 hp_ => ?_)
  obtain ⟨hF1, ho1, hzr⟩ := hk _ _ hp_
  have hG := hG.kept hF1
  have hA := hA.kept ho1
  refine pb_if_eq C dX0_contains_10 (x := z_) (tgt := 17) (by decide) (by omega) (fun c10_ => ?_) (fun c10_ => ?_)
  · obtain rfl : z_ = 0 := c10_
    refine pb_lc C dX0_contains_17 (0) (by decide +kernel) ?_
    refine pb_last C hA (i := 0) (by omega) (by omega) dX0_contains_18 fun H1_ hu_ hA => ?_
    have hG := hG.kept (hu_.z (by omega))
    refine pb_goto C dX0_contains_19 (tgt := 30) (by decide) ?_
    refine pb_ic C dX0_contains_30 ?_
    exact pb_iret C dX0_contains_31 (⟨_, rfl, rfl, _, _, _, hp_, hA, hu_⟩)
  · obtain rfl : z_ = 1 := by omega
    refine pb_lc C dX0_contains_13 (1) (by decide +kernel) ?_
    refine pb_goto C dX0_contains_14 (tgt := 18) (by decide) ?_
    refine pb_last C hA (i := 0) (by omega) (by omega) dX0_contains_18 fun H2_ hu_ hA => ?_
    have hG := hG.kept (hu_.z (by omega))
    refine pb_goto C dX0_contains_19 (tgt := 30) (by decide) ?_
    refine pb_ic C dX0_contains_30 ?_
    exact pb_iret C dX0_contains_31 (⟨_, rfl, rfl, _, _, _, hp_, hA, hu_⟩)

set_option maxHeartbeats 1000000 in
theorem mex_X0_contains_1 {w : pb_W} (l : Launch) {H : Heap} (b oL : Nat) (fs : List Value) (hBo : pb_R w H b 0 fs) (a1 : Int) (a2 : Int) (a3 : Int) (dd mc ms : Nat) (hd : dd ≤ 14) (hM : pb_X w l yX1_contains cX1_contains 5 (some .boolean) dd mc ms [.ref b, .int (iZ a1), .int (iZ a2), .int (iZ a3)] H RJ9) : pb_MW w l yX0_contains cX0_contains 6 (some .int) [(0, 19, 22, 13), (0, 19, 26, 15)] 15 (mc) (ms) [.ref (b), .int (iZ (a1)), .int (iZ (a2)), .int (iZ (a3)), .ref (oL)] H (pb_qi (fun k H1 => k = 1 ∧ pb_F (fun _ => True) H H1)) := by
  refine pb_ofWH (by decide +kernel) (Nat.le_of_ble_eq_true rfl) ?_
  intro p_ e_ s_ m_ ar_ bl_ me_ co_ ls C hh hG hl hT hN
  have hl : lv_has ls 6 [(0, .ref (b)), (1, .int (iZ (a1))), (2, .int (iZ (a2))), (3, .int (iZ (a3))), (4, .ref (oL))] := hl
  refine pb_aload C dX0_contains_0 (lv_at hl 4 rfl) ?_
  refine pb_ic C dX0_contains_2 ?_
  refine pb_aload_n C dX0_contains_3 rfl (lv_at hl 0 rfl) ?_
  refine pb_iload_n C dX0_contains_4 rfl (lv_at hl 1 rfl) ?_
  refine pb_iload_n C dX0_contains_5 rfl (lv_at hl 2 rfl) ?_
  refine pb_iload_n C dX0_contains_6 rfl (lv_at hl 3 rfl) ?_
  refine pb_catch (bc' := mc - mc) (bs' := ms - ms) C (pb_runVX (rest := [.int (iZ (0)), .ref (oL)]) C hG (hM) hBo (ci := 0) rfl (lw_V q1104 q1105 q1106 q51 q1107) ⟨rfl, hdX1_contains⟩ rfl hl.1 rfl (Nat.le_of_ble_eq_true rfl) ⟨show dd + 1 ≤ 15 from by omega, show 8 + (5 + 11) + 64 * dd ≤ 64 * 15 from by omega⟩ dX0_contains_7) (by omega) (by omega) [] ⟨0, 19, 22, 13⟩ [⟨0, 19, 26, 15⟩] hT (fun z9 h9 => absurd h9 List.not_mem_nil) (by decide) (by decide) q241 q337 fun q9 H1 hF1 => ?_
  refine pb_astore C dX0_contains_22 hl (by decide) rfl fun ls hl => ?_
  have hl : lv_has ls 6 [(5, .ref (q9)), (0, .ref (b)), (1, .int (iZ (a1))), (2, .int (iZ (a2))), (3, .int (iZ (a3))), (4, .ref (oL))] := hl
  refine pb_ic C dX0_contains_24 ?_
  exact pb_iret C dX0_contains_25 (⟨_, rfl, rfl, hF1⟩)

set_option maxHeartbeats 1000000 in
theorem mex_X0_contains_2 {w : pb_W} (l : Launch) {H : Heap} (b oL : Nat) (fs : List Value) (hBo : pb_R w H b 0 fs) (a1 : Int) (a2 : Int) (a3 : Int) (dd mc ms : Nat) (hd : dd ≤ 14) (hM : pb_X w l yX1_contains cX1_contains 5 (some .boolean) dd mc ms [.ref b, .int (iZ a1), .int (iZ a2), .int (iZ a3)] H RJ14) : pb_MW w l yX0_contains cX0_contains 6 (some .int) [(0, 19, 22, 13), (0, 19, 26, 15)] 15 (mc) (ms) [.ref (b), .int (iZ (a1)), .int (iZ (a2)), .int (iZ (a3)), .ref (oL)] H (pb_qi (fun k H1 => k = 2 ∧ pb_F (fun _ => True) H H1)) := by
  refine pb_ofWH (by decide +kernel) (Nat.le_of_ble_eq_true rfl) ?_
  intro p_ e_ s_ m_ ar_ bl_ me_ co_ ls C hh hG hl hT hN
  have hl : lv_has ls 6 [(0, .ref (b)), (1, .int (iZ (a1))), (2, .int (iZ (a2))), (3, .int (iZ (a3))), (4, .ref (oL))] := hl
  refine pb_aload C dX0_contains_0 (lv_at hl 4 rfl) ?_
  refine pb_ic C dX0_contains_2 ?_
  refine pb_aload_n C dX0_contains_3 rfl (lv_at hl 0 rfl) ?_
  refine pb_iload_n C dX0_contains_4 rfl (lv_at hl 1 rfl) ?_
  refine pb_iload_n C dX0_contains_5 rfl (lv_at hl 2 rfl) ?_
  refine pb_iload_n C dX0_contains_6 rfl (lv_at hl 3 rfl) ?_
  refine pb_catch (bc' := mc - mc) (bs' := ms - ms) C (pb_runVX (rest := [.int (iZ (0)), .ref (oL)]) C hG (hM) hBo (ci := 0) rfl (lw_V q1104 q1105 q1106 q51 q1107) ⟨rfl, hdX1_contains⟩ rfl hl.1 rfl (Nat.le_of_ble_eq_true rfl) ⟨show dd + 1 ≤ 15 from by omega, show 8 + (5 + 11) + 64 * dd ≤ 64 * 15 from by omega⟩ dX0_contains_7) (by omega) (by omega) [⟨0, 19, 22, 13⟩] ⟨0, 19, 26, 15⟩ [] hT (List.forall_mem_cons.mpr ⟨⟨by decide, "java/lang/IndexOutOfBoundsException", q241, hN ("java/lang/IllegalArgumentException", "java/lang/IndexOutOfBoundsException") (by decide)⟩, (fun z9 h9 => absurd h9 List.not_mem_nil)⟩) (by decide) (by decide) q320 q386 fun q9 H1 hF1 => ?_
  refine pb_astore C dX0_contains_26 hl (by decide) rfl fun ls hl => ?_
  have hl : lv_has ls 6 [(5, .ref (q9)), (0, .ref (b)), (1, .int (iZ (a1))), (2, .int (iZ (a2))), (3, .int (iZ (a3))), (4, .ref (oL))] := hl
  refine pb_ic C dX0_contains_28 ?_
  exact pb_iret C dX0_contains_29 (⟨_, rfl, rfl, hF1⟩)

set_option maxHeartbeats 1000000 in
theorem met_X0_area {w : pb_W} (l : Launch) {H : Heap} (b oL : Nat) (fs : List Value) (hBo : pb_R w H b 0 fs) (a1 : Int) (dd mc ms : Nat) (post : Int → Heap → Prop) (g0 : Nat → Value) (hd : dd ≤ 14) (hM : pb_M w l yX1_area cX1_area 2 (some .int) dd mc ms [.ref b, .int (iZ a1)] H (pb_qi post)) (hk : ∀ z H1, post z H1 → pb_F (fun q => q < w.2.2.2) H H1 ∧ H1[oL]? = H[oL]? ∧ -2147483648 ≤ z ∧ z ≤ 2147483647) (hA : pb_A w H oL 2 1 g0) (hz : w.2.2.2 ≤ oL) : pb_MW w l yX0_area cX0_area 4 (some .int) [(0, 9, 12, 13)] 15 (mc) (ms) [.ref (b), .int (iZ (a1)), .ref (oL)] H (pb_qi (fun k H2 => k = 0 ∧ ∃ z H1 g, post z H1 ∧ pb_A w H2 oL 2 1 (updV g 0 (.long (lZ z))) ∧ pb_Up oL H1 H2)) := by
  refine pb_ofWH (by decide +kernel) (Nat.le_of_ble_eq_true rfl) ?_
  intro p_ e_ s_ m_ ar_ bl_ me_ co_ ls C hh hG hl hT hN
  have hl : lv_has ls 4 [(0, .ref (b)), (1, .int (iZ (a1))), (2, .ref (oL))] := hl
  refine pb_aload_n C dX0_area_0 rfl (lv_at hl 2 rfl) ?_
  refine pb_ic C dX0_area_1 ?_
  refine pb_aload_n C dX0_area_2 rfl (lv_at hl 0 rfl) ?_
  refine pb_iload_n C dX0_area_3 rfl (lv_at hl 1 rfl) ?_
  refine pb_go_i (bc' := mc - mc) (bs' := ms - ms) (pb_runV (rest := [.int (iZ (0)), .ref (oL)]) C hG (hM) hBo (ci := 0) rfl (lw_V q1115 q1116 q1117 q51 q1118) ⟨rfl, hdX1_area⟩ rfl hl.1 rfl (Nat.le_of_ble_eq_true rfl) ⟨show dd + 1 ≤ 15 from by omega, show 8 + (2 + 11) + 64 * dd ≤ 64 * 15 from by omega⟩ dX0_area_4) (by omega) (by omega) (fun z_ H1 hp_ => ?_)
  obtain ⟨hF1, ho1, hzr⟩ := hk _ _ hp_
  have hG := hG.kept hF1
  have hA := hA.kept ho1
  refine pb_i2l C dX0_area_7 (x := z_) (by omega) ?_
  refine pb_last C hA (i := 0) (by omega) (by omega) dX0_area_8 fun H1_ hu_ hA => ?_
  have hG := hG.kept (hu_.z (by omega))
  refine pb_goto C dX0_area_9 (tgt := 15) (by decide) ?_
  refine pb_ic C dX0_area_15 ?_
  exact pb_iret C dX0_area_16 (⟨_, rfl, rfl, _, _, _, hp_, hA, hu_⟩)

set_option maxHeartbeats 1000000 in
theorem mex_X0_area_1 {w : pb_W} (l : Launch) {H : Heap} (b oL : Nat) (fs : List Value) (hBo : pb_R w H b 0 fs) (a1 : Int) (dd mc ms : Nat) (hd : dd ≤ 14) (hM : pb_X w l yX1_area cX1_area 2 (some .int) dd mc ms [.ref b, .int (iZ a1)] H RJ9) : pb_MW w l yX0_area cX0_area 4 (some .int) [(0, 9, 12, 13)] 15 (mc) (ms) [.ref (b), .int (iZ (a1)), .ref (oL)] H (pb_qi (fun k H1 => k = 1 ∧ pb_F (fun _ => True) H H1)) := by
  refine pb_ofWH (by decide +kernel) (Nat.le_of_ble_eq_true rfl) ?_
  intro p_ e_ s_ m_ ar_ bl_ me_ co_ ls C hh hG hl hT hN
  have hl : lv_has ls 4 [(0, .ref (b)), (1, .int (iZ (a1))), (2, .ref (oL))] := hl
  refine pb_aload_n C dX0_area_0 rfl (lv_at hl 2 rfl) ?_
  refine pb_ic C dX0_area_1 ?_
  refine pb_aload_n C dX0_area_2 rfl (lv_at hl 0 rfl) ?_
  refine pb_iload_n C dX0_area_3 rfl (lv_at hl 1 rfl) ?_
  refine pb_catch (bc' := mc - mc) (bs' := ms - ms) C (pb_runVX (rest := [.int (iZ (0)), .ref (oL)]) C hG (hM) hBo (ci := 0) rfl (lw_V q1115 q1116 q1117 q51 q1118) ⟨rfl, hdX1_area⟩ rfl hl.1 rfl (Nat.le_of_ble_eq_true rfl) ⟨show dd + 1 ≤ 15 from by omega, show 8 + (2 + 11) + 64 * dd ≤ 64 * 15 from by omega⟩ dX0_area_4) (by omega) (by omega) [] ⟨0, 9, 12, 13⟩ [] hT (fun z9 h9 => absurd h9 List.not_mem_nil) (by decide) (by decide) q241 q337 fun q9 H1 hF1 => ?_
  refine pb_astore_n C dX0_area_12 rfl hl (by decide) rfl fun ls hl => ?_
  have hl : lv_has ls 4 [(3, .ref (q9)), (0, .ref (b)), (1, .int (iZ (a1))), (2, .ref (oL))] := hl
  refine pb_ic C dX0_area_13 ?_
  exact pb_iret C dX0_area_14 (⟨_, rfl, rfl, hF1⟩)

set_option maxHeartbeats 1000000 in
theorem met_X0_areaByCells {w : pb_W} (l : Launch) {H : Heap} (b oL : Nat) (fs : List Value) (hBo : pb_R w H b 0 fs) (a1 : Int) (dd mc ms : Nat) (post : Int → Heap → Prop) (g0 : Nat → Value) (hd : dd ≤ 14) (hM : pb_M w l yX1_areaByCells cX1_areaByCells 2 (some .int) dd mc ms [.ref b, .int (iZ a1)] H (pb_qi post)) (hk : ∀ z H1, post z H1 → pb_F (fun q => q < w.2.2.2) H H1 ∧ H1[oL]? = H[oL]? ∧ -2147483648 ≤ z ∧ z ≤ 2147483647) (hA : pb_A w H oL 2 1 g0) (hz : w.2.2.2 ≤ oL) : pb_MW w l yX0_areaByCells cX0_areaByCells 4 (some .int) [(0, 9, 12, 13)] 15 (mc) (ms) [.ref (b), .int (iZ (a1)), .ref (oL)] H (pb_qi (fun k H2 => k = 0 ∧ ∃ z H1 g, post z H1 ∧ pb_A w H2 oL 2 1 (updV g 0 (.long (lZ z))) ∧ pb_Up oL H1 H2)) := by
  refine pb_ofWH (by decide +kernel) (Nat.le_of_ble_eq_true rfl) ?_
  intro p_ e_ s_ m_ ar_ bl_ me_ co_ ls C hh hG hl hT hN
  have hl : lv_has ls 4 [(0, .ref (b)), (1, .int (iZ (a1))), (2, .ref (oL))] := hl
  refine pb_aload_n C dX0_areaByCells_0 rfl (lv_at hl 2 rfl) ?_
  refine pb_ic C dX0_areaByCells_1 ?_
  refine pb_aload_n C dX0_areaByCells_2 rfl (lv_at hl 0 rfl) ?_
  refine pb_iload_n C dX0_areaByCells_3 rfl (lv_at hl 1 rfl) ?_
  refine pb_go_i (bc' := mc - mc) (bs' := ms - ms) (pb_runV (rest := [.int (iZ (0)), .ref (oL)]) C hG (hM) hBo (ci := 0) rfl (lw_V q1122 q1123 q1124 q51 q1125) ⟨rfl, hdX1_areaByCells⟩ rfl hl.1 rfl (Nat.le_of_ble_eq_true rfl) ⟨show dd + 1 ≤ 15 from by omega, show 8 + (2 + 11) + 64 * dd ≤ 64 * 15 from by omega⟩ dX0_areaByCells_4) (by omega) (by omega) (fun z_ H1 hp_ => ?_)
  obtain ⟨hF1, ho1, hzr⟩ := hk _ _ hp_
  have hG := hG.kept hF1
  have hA := hA.kept ho1
  refine pb_i2l C dX0_areaByCells_7 (x := z_) (by omega) ?_
  refine pb_last C hA (i := 0) (by omega) (by omega) dX0_areaByCells_8 fun H1_ hu_ hA => ?_
  have hG := hG.kept (hu_.z (by omega))
  refine pb_goto C dX0_areaByCells_9 (tgt := 15) (by decide) ?_
  refine pb_ic C dX0_areaByCells_15 ?_
  exact pb_iret C dX0_areaByCells_16 (⟨_, rfl, rfl, _, _, _, hp_, hA, hu_⟩)

set_option maxHeartbeats 1000000 in
theorem mex_X0_areaByCells_1 {w : pb_W} (l : Launch) {H : Heap} (b oL : Nat) (fs : List Value) (hBo : pb_R w H b 0 fs) (a1 : Int) (dd mc ms : Nat) (hd : dd ≤ 14) (hM : pb_X w l yX1_areaByCells cX1_areaByCells 2 (some .int) dd mc ms [.ref b, .int (iZ a1)] H RJ9) : pb_MW w l yX0_areaByCells cX0_areaByCells 4 (some .int) [(0, 9, 12, 13)] 15 (mc) (ms) [.ref (b), .int (iZ (a1)), .ref (oL)] H (pb_qi (fun k H1 => k = 1 ∧ pb_F (fun _ => True) H H1)) := by
  refine pb_ofWH (by decide +kernel) (Nat.le_of_ble_eq_true rfl) ?_
  intro p_ e_ s_ m_ ar_ bl_ me_ co_ ls C hh hG hl hT hN
  have hl : lv_has ls 4 [(0, .ref (b)), (1, .int (iZ (a1))), (2, .ref (oL))] := hl
  refine pb_aload_n C dX0_areaByCells_0 rfl (lv_at hl 2 rfl) ?_
  refine pb_ic C dX0_areaByCells_1 ?_
  refine pb_aload_n C dX0_areaByCells_2 rfl (lv_at hl 0 rfl) ?_
  refine pb_iload_n C dX0_areaByCells_3 rfl (lv_at hl 1 rfl) ?_
  refine pb_catch (bc' := mc - mc) (bs' := ms - ms) C (pb_runVX (rest := [.int (iZ (0)), .ref (oL)]) C hG (hM) hBo (ci := 0) rfl (lw_V q1122 q1123 q1124 q51 q1125) ⟨rfl, hdX1_areaByCells⟩ rfl hl.1 rfl (Nat.le_of_ble_eq_true rfl) ⟨show dd + 1 ≤ 15 from by omega, show 8 + (2 + 11) + 64 * dd ≤ 64 * 15 from by omega⟩ dX0_areaByCells_4) (by omega) (by omega) [] ⟨0, 9, 12, 13⟩ [] hT (fun z9 h9 => absurd h9 List.not_mem_nil) (by decide) (by decide) q241 q337 fun q9 H1 hF1 => ?_
  refine pb_astore_n C dX0_areaByCells_12 rfl hl (by decide) rfl fun ls hl => ?_
  have hl : lv_has ls 4 [(3, .ref (q9)), (0, .ref (b)), (1, .int (iZ (a1))), (2, .ref (oL))] := hl
  refine pb_ic C dX0_areaByCells_13 ?_
  exact pb_iret C dX0_areaByCells_14 (⟨_, rfl, rfl, hF1⟩)

set_option maxHeartbeats 1000000 in
theorem met_X0_perimeter {w : pb_W} (l : Launch) {H : Heap} (b oL : Nat) (fs : List Value) (hBo : pb_R w H b 0 fs) (a1 : Int) (dd mc ms : Nat) (post : Int → Heap → Prop) (g0 : Nat → Value) (hd : dd ≤ 14) (hM : pb_M w l yX1_perimeter cX1_perimeter 2 (some .int) dd mc ms [.ref b, .int (iZ a1)] H (pb_qi post)) (hk : ∀ z H1, post z H1 → pb_F (fun q => q < w.2.2.2) H H1 ∧ H1[oL]? = H[oL]? ∧ -2147483648 ≤ z ∧ z ≤ 2147483647) (hA : pb_A w H oL 2 1 g0) (hz : w.2.2.2 ≤ oL) : pb_MW w l yX0_perimeter cX0_perimeter 4 (some .int) [(0, 9, 12, 13)] 15 (mc) (ms) [.ref (b), .int (iZ (a1)), .ref (oL)] H (pb_qi (fun k H2 => k = 0 ∧ ∃ z H1 g, post z H1 ∧ pb_A w H2 oL 2 1 (updV g 0 (.long (lZ z))) ∧ pb_Up oL H1 H2)) := by
  refine pb_ofWH (by decide +kernel) (Nat.le_of_ble_eq_true rfl) ?_
  intro p_ e_ s_ m_ ar_ bl_ me_ co_ ls C hh hG hl hT hN
  have hl : lv_has ls 4 [(0, .ref (b)), (1, .int (iZ (a1))), (2, .ref (oL))] := hl
  refine pb_aload_n C dX0_perimeter_0 rfl (lv_at hl 2 rfl) ?_
  refine pb_ic C dX0_perimeter_1 ?_
  refine pb_aload_n C dX0_perimeter_2 rfl (lv_at hl 0 rfl) ?_
  refine pb_iload_n C dX0_perimeter_3 rfl (lv_at hl 1 rfl) ?_
  refine pb_go_i (bc' := mc - mc) (bs' := ms - ms) (pb_runV (rest := [.int (iZ (0)), .ref (oL)]) C hG (hM) hBo (ci := 0) rfl (lw_V q1139 q1140 q1141 q51 q1142) ⟨rfl, hdX1_perimeter⟩ rfl hl.1 rfl (Nat.le_of_ble_eq_true rfl) ⟨show dd + 1 ≤ 15 from by omega, show 8 + (2 + 11) + 64 * dd ≤ 64 * 15 from by omega⟩ dX0_perimeter_4) (by omega) (by omega) (fun z_ H1 hp_ => ?_)
  obtain ⟨hF1, ho1, hzr⟩ := hk _ _ hp_
  have hG := hG.kept hF1
  have hA := hA.kept ho1
  refine pb_i2l C dX0_perimeter_7 (x := z_) (by omega) ?_
  refine pb_last C hA (i := 0) (by omega) (by omega) dX0_perimeter_8 fun H1_ hu_ hA => ?_
  have hG := hG.kept (hu_.z (by omega))
  refine pb_goto C dX0_perimeter_9 (tgt := 15) (by decide) ?_
  refine pb_ic C dX0_perimeter_15 ?_
  exact pb_iret C dX0_perimeter_16 (⟨_, rfl, rfl, _, _, _, hp_, hA, hu_⟩)

set_option maxHeartbeats 1000000 in
theorem mex_X0_perimeter_1 {w : pb_W} (l : Launch) {H : Heap} (b oL : Nat) (fs : List Value) (hBo : pb_R w H b 0 fs) (a1 : Int) (dd mc ms : Nat) (hd : dd ≤ 14) (hM : pb_X w l yX1_perimeter cX1_perimeter 2 (some .int) dd mc ms [.ref b, .int (iZ a1)] H RJ9) : pb_MW w l yX0_perimeter cX0_perimeter 4 (some .int) [(0, 9, 12, 13)] 15 (mc) (ms) [.ref (b), .int (iZ (a1)), .ref (oL)] H (pb_qi (fun k H1 => k = 1 ∧ pb_F (fun _ => True) H H1)) := by
  refine pb_ofWH (by decide +kernel) (Nat.le_of_ble_eq_true rfl) ?_
  intro p_ e_ s_ m_ ar_ bl_ me_ co_ ls C hh hG hl hT hN
  have hl : lv_has ls 4 [(0, .ref (b)), (1, .int (iZ (a1))), (2, .ref (oL))] := hl
  refine pb_aload_n C dX0_perimeter_0 rfl (lv_at hl 2 rfl) ?_
  refine pb_ic C dX0_perimeter_1 ?_
  refine pb_aload_n C dX0_perimeter_2 rfl (lv_at hl 0 rfl) ?_
  refine pb_iload_n C dX0_perimeter_3 rfl (lv_at hl 1 rfl) ?_
  refine pb_catch (bc' := mc - mc) (bs' := ms - ms) C (pb_runVX (rest := [.int (iZ (0)), .ref (oL)]) C hG (hM) hBo (ci := 0) rfl (lw_V q1139 q1140 q1141 q51 q1142) ⟨rfl, hdX1_perimeter⟩ rfl hl.1 rfl (Nat.le_of_ble_eq_true rfl) ⟨show dd + 1 ≤ 15 from by omega, show 8 + (2 + 11) + 64 * dd ≤ 64 * 15 from by omega⟩ dX0_perimeter_4) (by omega) (by omega) [] ⟨0, 9, 12, 13⟩ [] hT (fun z9 h9 => absurd h9 List.not_mem_nil) (by decide) (by decide) q241 q337 fun q9 H1 hF1 => ?_
  refine pb_astore_n C dX0_perimeter_12 rfl hl (by decide) rfl fun ls hl => ?_
  have hl : lv_has ls 4 [(3, .ref (q9)), (0, .ref (b)), (1, .int (iZ (a1))), (2, .ref (oL))] := hl
  refine pb_ic C dX0_perimeter_13 ?_
  exact pb_iret C dX0_perimeter_14 (⟨_, rfl, rfl, hF1⟩)

set_option maxHeartbeats 1000000 in
theorem met_X0_perimeterByCells {w : pb_W} (l : Launch) {H : Heap} (b oL : Nat) (fs : List Value) (hBo : pb_R w H b 0 fs) (a1 : Int) (dd mc ms : Nat) (post : Int → Heap → Prop) (g0 : Nat → Value) (hd : dd ≤ 14) (hM : pb_M w l yX1_perimeterByCells cX1_perimeterByCells 2 (some .int) dd mc ms [.ref b, .int (iZ a1)] H (pb_qi post)) (hk : ∀ z H1, post z H1 → pb_F (fun q => q < w.2.2.2) H H1 ∧ H1[oL]? = H[oL]? ∧ -2147483648 ≤ z ∧ z ≤ 2147483647) (hA : pb_A w H oL 2 1 g0) (hz : w.2.2.2 ≤ oL) : pb_MW w l yX0_perimeterByCells cX0_perimeterByCells 4 (some .int) [(0, 9, 12, 13)] 15 (mc) (ms) [.ref (b), .int (iZ (a1)), .ref (oL)] H (pb_qi (fun k H2 => k = 0 ∧ ∃ z H1 g, post z H1 ∧ pb_A w H2 oL 2 1 (updV g 0 (.long (lZ z))) ∧ pb_Up oL H1 H2)) := by
  refine pb_ofWH (by decide +kernel) (Nat.le_of_ble_eq_true rfl) ?_
  intro p_ e_ s_ m_ ar_ bl_ me_ co_ ls C hh hG hl hT hN
  have hl : lv_has ls 4 [(0, .ref (b)), (1, .int (iZ (a1))), (2, .ref (oL))] := hl
  refine pb_aload_n C dX0_perimeterByCells_0 rfl (lv_at hl 2 rfl) ?_
  refine pb_ic C dX0_perimeterByCells_1 ?_
  refine pb_aload_n C dX0_perimeterByCells_2 rfl (lv_at hl 0 rfl) ?_
  refine pb_iload_n C dX0_perimeterByCells_3 rfl (lv_at hl 1 rfl) ?_
  refine pb_go_i (bc' := mc - mc) (bs' := ms - ms) (pb_runV (rest := [.int (iZ (0)), .ref (oL)]) C hG (hM) hBo (ci := 0) rfl (lw_V q1167 q1168 q1169 q51 q1170) ⟨rfl, hdX1_perimeterByCells⟩ rfl hl.1 rfl (Nat.le_of_ble_eq_true rfl) ⟨show dd + 1 ≤ 15 from by omega, show 8 + (2 + 11) + 64 * dd ≤ 64 * 15 from by omega⟩ dX0_perimeterByCells_4) (by omega) (by omega) (fun z_ H1 hp_ => ?_)
  obtain ⟨hF1, ho1, hzr⟩ := hk _ _ hp_
  have hG := hG.kept hF1
  have hA := hA.kept ho1
  refine pb_i2l C dX0_perimeterByCells_7 (x := z_) (by omega) ?_
  refine pb_last C hA (i := 0) (by omega) (by omega) dX0_perimeterByCells_8 fun H1_ hu_ hA => ?_
  have hG := hG.kept (hu_.z (by omega))
  refine pb_goto C dX0_perimeterByCells_9 (tgt := 15) (by decide) ?_
  refine pb_ic C dX0_perimeterByCells_15 ?_
  exact pb_iret C dX0_perimeterByCells_16 (⟨_, rfl, rfl, _, _, _, hp_, hA, hu_⟩)

set_option maxHeartbeats 1000000 in
theorem mex_X0_perimeterByCells_1 {w : pb_W} (l : Launch) {H : Heap} (b oL : Nat) (fs : List Value) (hBo : pb_R w H b 0 fs) (a1 : Int) (dd mc ms : Nat) (hd : dd ≤ 14) (hM : pb_X w l yX1_perimeterByCells cX1_perimeterByCells 2 (some .int) dd mc ms [.ref b, .int (iZ a1)] H RJ9) : pb_MW w l yX0_perimeterByCells cX0_perimeterByCells 4 (some .int) [(0, 9, 12, 13)] 15 (mc) (ms) [.ref (b), .int (iZ (a1)), .ref (oL)] H (pb_qi (fun k H1 => k = 1 ∧ pb_F (fun _ => True) H H1)) := by
  refine pb_ofWH (by decide +kernel) (Nat.le_of_ble_eq_true rfl) ?_
  intro p_ e_ s_ m_ ar_ bl_ me_ co_ ls C hh hG hl hT hN
  have hl : lv_has ls 4 [(0, .ref (b)), (1, .int (iZ (a1))), (2, .ref (oL))] := hl
  refine pb_aload_n C dX0_perimeterByCells_0 rfl (lv_at hl 2 rfl) ?_
  refine pb_ic C dX0_perimeterByCells_1 ?_
  refine pb_aload_n C dX0_perimeterByCells_2 rfl (lv_at hl 0 rfl) ?_
  refine pb_iload_n C dX0_perimeterByCells_3 rfl (lv_at hl 1 rfl) ?_
  refine pb_catch (bc' := mc - mc) (bs' := ms - ms) C (pb_runVX (rest := [.int (iZ (0)), .ref (oL)]) C hG (hM) hBo (ci := 0) rfl (lw_V q1167 q1168 q1169 q51 q1170) ⟨rfl, hdX1_perimeterByCells⟩ rfl hl.1 rfl (Nat.le_of_ble_eq_true rfl) ⟨show dd + 1 ≤ 15 from by omega, show 8 + (2 + 11) + 64 * dd ≤ 64 * 15 from by omega⟩ dX0_perimeterByCells_4) (by omega) (by omega) [] ⟨0, 9, 12, 13⟩ [] hT (fun z9 h9 => absurd h9 List.not_mem_nil) (by decide) (by decide) q241 q337 fun q9 H1 hF1 => ?_
  refine pb_astore_n C dX0_perimeterByCells_12 rfl hl (by decide) rfl fun ls hl => ?_
  have hl : lv_has ls 4 [(3, .ref (q9)), (0, .ref (b)), (1, .int (iZ (a1))), (2, .ref (oL))] := hl
  refine pb_ic C dX0_perimeterByCells_13 ?_
  exact pb_iret C dX0_perimeterByCells_14 (⟨_, rfl, rfl, hF1⟩)

set_option maxHeartbeats 1000000 in
theorem met_X0_bandCount {w : pb_W} (l : Launch) {H : Heap} (b oL : Nat) (fs : List Value) (hBo : pb_R w H b 0 fs) (a1 : Int) (dd mc ms : Nat) (post : Int → Heap → Prop) (g0 : Nat → Value) (hd : dd ≤ 14) (hM : pb_M w l yX1_bandCount cX1_bandCount 2 (some .int) dd mc ms [.ref b, .int (iZ a1)] H (pb_qi post)) (hk : ∀ z H1, post z H1 → pb_F (fun q => q < w.2.2.2) H H1 ∧ H1[oL]? = H[oL]? ∧ -2147483648 ≤ z ∧ z ≤ 2147483647) (hA : pb_A w H oL 2 1 g0) (hz : w.2.2.2 ≤ oL) : pb_MW w l yX0_bandCount cX0_bandCount 4 (some .int) [(0, 9, 12, 13)] 15 (mc) (ms) [.ref (b), .int (iZ (a1)), .ref (oL)] H (pb_qi (fun k H2 => k = 0 ∧ ∃ z H1 g, post z H1 ∧ pb_A w H2 oL 2 1 (updV g 0 (.long (lZ z))) ∧ pb_Up oL H1 H2)) := by
  refine pb_ofWH (by decide +kernel) (Nat.le_of_ble_eq_true rfl) ?_
  intro p_ e_ s_ m_ ar_ bl_ me_ co_ ls C hh hG hl hT hN
  have hl : lv_has ls 4 [(0, .ref (b)), (1, .int (iZ (a1))), (2, .ref (oL))] := hl
  refine pb_aload_n C dX0_bandCount_0 rfl (lv_at hl 2 rfl) ?_
  refine pb_ic C dX0_bandCount_1 ?_
  refine pb_aload_n C dX0_bandCount_2 rfl (lv_at hl 0 rfl) ?_
  refine pb_iload_n C dX0_bandCount_3 rfl (lv_at hl 1 rfl) ?_
  refine pb_go_i (bc' := mc - mc) (bs' := ms - ms) (pb_runV (rest := [.int (iZ (0)), .ref (oL)]) C hG (hM) hBo (ci := 0) rfl (lw_V q1183 q1184 q1185 q51 q1186) ⟨rfl, hdX1_bandCount⟩ rfl hl.1 rfl (Nat.le_of_ble_eq_true rfl) ⟨show dd + 1 ≤ 15 from by omega, show 8 + (2 + 11) + 64 * dd ≤ 64 * 15 from by omega⟩ dX0_bandCount_4) (by omega) (by omega) (fun z_ H1 hp_ => ?_)
  obtain ⟨hF1, ho1, hzr⟩ := hk _ _ hp_
  have hG := hG.kept hF1
  have hA := hA.kept ho1
  refine pb_i2l C dX0_bandCount_7 (x := z_) (by omega) ?_
  refine pb_last C hA (i := 0) (by omega) (by omega) dX0_bandCount_8 fun H1_ hu_ hA => ?_
  have hG := hG.kept (hu_.z (by omega))
  refine pb_goto C dX0_bandCount_9 (tgt := 15) (by decide) ?_
  refine pb_ic C dX0_bandCount_15 ?_
  exact pb_iret C dX0_bandCount_16 (⟨_, rfl, rfl, _, _, _, hp_, hA, hu_⟩)

set_option maxHeartbeats 1000000 in
theorem mex_X0_bandCount_1 {w : pb_W} (l : Launch) {H : Heap} (b oL : Nat) (fs : List Value) (hBo : pb_R w H b 0 fs) (a1 : Int) (dd mc ms : Nat) (hd : dd ≤ 14) (hM : pb_X w l yX1_bandCount cX1_bandCount 2 (some .int) dd mc ms [.ref b, .int (iZ a1)] H RJ9) : pb_MW w l yX0_bandCount cX0_bandCount 4 (some .int) [(0, 9, 12, 13)] 15 (mc) (ms) [.ref (b), .int (iZ (a1)), .ref (oL)] H (pb_qi (fun k H1 => k = 1 ∧ pb_F (fun _ => True) H H1)) := by
  refine pb_ofWH (by decide +kernel) (Nat.le_of_ble_eq_true rfl) ?_
  intro p_ e_ s_ m_ ar_ bl_ me_ co_ ls C hh hG hl hT hN
  have hl : lv_has ls 4 [(0, .ref (b)), (1, .int (iZ (a1))), (2, .ref (oL))] := hl
  refine pb_aload_n C dX0_bandCount_0 rfl (lv_at hl 2 rfl) ?_
  refine pb_ic C dX0_bandCount_1 ?_
  refine pb_aload_n C dX0_bandCount_2 rfl (lv_at hl 0 rfl) ?_
  refine pb_iload_n C dX0_bandCount_3 rfl (lv_at hl 1 rfl) ?_
  refine pb_catch (bc' := mc - mc) (bs' := ms - ms) C (pb_runVX (rest := [.int (iZ (0)), .ref (oL)]) C hG (hM) hBo (ci := 0) rfl (lw_V q1183 q1184 q1185 q51 q1186) ⟨rfl, hdX1_bandCount⟩ rfl hl.1 rfl (Nat.le_of_ble_eq_true rfl) ⟨show dd + 1 ≤ 15 from by omega, show 8 + (2 + 11) + 64 * dd ≤ 64 * 15 from by omega⟩ dX0_bandCount_4) (by omega) (by omega) [] ⟨0, 9, 12, 13⟩ [] hT (fun z9 h9 => absurd h9 List.not_mem_nil) (by decide) (by decide) q241 q337 fun q9 H1 hF1 => ?_
  refine pb_astore_n C dX0_bandCount_12 rfl hl (by decide) rfl fun ls hl => ?_
  have hl : lv_has ls 4 [(3, .ref (q9)), (0, .ref (b)), (1, .int (iZ (a1))), (2, .ref (oL))] := hl
  refine pb_ic C dX0_bandCount_13 ?_
  exact pb_iret C dX0_bandCount_14 (⟨_, rfl, rfl, hF1⟩)

set_option maxHeartbeats 1000000 in
theorem met_X0_rectangleCount {w : pb_W} (l : Launch) {H : Heap} (b oL : Nat) (fs : List Value) (hBo : pb_R w H b 0 fs) (a1 : Int) (dd mc ms : Nat) (post : Int → Heap → Prop) (g0 : Nat → Value) (hd : dd ≤ 14) (hM : pb_M w l yX1_rectangleCount cX1_rectangleCount 3 (some .int) dd mc ms [.ref b, .int (iZ a1)] H (pb_qi post)) (hk : ∀ z H1, post z H1 → pb_F (fun q => q < w.2.2.2) H H1 ∧ H1[oL]? = H[oL]? ∧ -2147483648 ≤ z ∧ z ≤ 2147483647) (hA : pb_A w H oL 2 1 g0) (hz : w.2.2.2 ≤ oL) : pb_MW w l yX0_rectangleCount cX0_rectangleCount 4 (some .int) [(0, 9, 12, 13)] 15 (mc) (ms) [.ref (b), .int (iZ (a1)), .ref (oL)] H (pb_qi (fun k H2 => k = 0 ∧ ∃ z H1 g, post z H1 ∧ pb_A w H2 oL 2 1 (updV g 0 (.long (lZ z))) ∧ pb_Up oL H1 H2)) := by
  refine pb_ofWH (by decide +kernel) (Nat.le_of_ble_eq_true rfl) ?_
  intro p_ e_ s_ m_ ar_ bl_ me_ co_ ls C hh hG hl hT hN
  have hl : lv_has ls 4 [(0, .ref (b)), (1, .int (iZ (a1))), (2, .ref (oL))] := hl
  refine pb_aload_n C dX0_rectangleCount_0 rfl (lv_at hl 2 rfl) ?_
  refine pb_ic C dX0_rectangleCount_1 ?_
  refine pb_aload_n C dX0_rectangleCount_2 rfl (lv_at hl 0 rfl) ?_
  refine pb_iload_n C dX0_rectangleCount_3 rfl (lv_at hl 1 rfl) ?_
  refine pb_go_i (bc' := mc - mc) (bs' := ms - ms) (pb_runV (rest := [.int (iZ (0)), .ref (oL)]) C hG (hM) hBo (ci := 0) rfl (lw_V q1192 q1193 q1194 q51 q1195) ⟨rfl, hdX1_rectangleCount⟩ rfl hl.1 rfl (Nat.le_of_ble_eq_true rfl) ⟨show dd + 1 ≤ 15 from by omega, show 8 + (3 + 11) + 64 * dd ≤ 64 * 15 from by omega⟩ dX0_rectangleCount_4) (by omega) (by omega) (fun z_ H1 hp_ => ?_)
  obtain ⟨hF1, ho1, hzr⟩ := hk _ _ hp_
  have hG := hG.kept hF1
  have hA := hA.kept ho1
  refine pb_i2l C dX0_rectangleCount_7 (x := z_) (by omega) ?_
  refine pb_last C hA (i := 0) (by omega) (by omega) dX0_rectangleCount_8 fun H1_ hu_ hA => ?_
  have hG := hG.kept (hu_.z (by omega))
  refine pb_goto C dX0_rectangleCount_9 (tgt := 15) (by decide) ?_
  refine pb_ic C dX0_rectangleCount_15 ?_
  exact pb_iret C dX0_rectangleCount_16 (⟨_, rfl, rfl, _, _, _, hp_, hA, hu_⟩)

set_option maxHeartbeats 1000000 in
theorem mex_X0_rectangleCount_1 {w : pb_W} (l : Launch) {H : Heap} (b oL : Nat) (fs : List Value) (hBo : pb_R w H b 0 fs) (a1 : Int) (dd mc ms : Nat) (hd : dd ≤ 14) (hM : pb_X w l yX1_rectangleCount cX1_rectangleCount 3 (some .int) dd mc ms [.ref b, .int (iZ a1)] H RJ9) : pb_MW w l yX0_rectangleCount cX0_rectangleCount 4 (some .int) [(0, 9, 12, 13)] 15 (mc) (ms) [.ref (b), .int (iZ (a1)), .ref (oL)] H (pb_qi (fun k H1 => k = 1 ∧ pb_F (fun _ => True) H H1)) := by
  refine pb_ofWH (by decide +kernel) (Nat.le_of_ble_eq_true rfl) ?_
  intro p_ e_ s_ m_ ar_ bl_ me_ co_ ls C hh hG hl hT hN
  have hl : lv_has ls 4 [(0, .ref (b)), (1, .int (iZ (a1))), (2, .ref (oL))] := hl
  refine pb_aload_n C dX0_rectangleCount_0 rfl (lv_at hl 2 rfl) ?_
  refine pb_ic C dX0_rectangleCount_1 ?_
  refine pb_aload_n C dX0_rectangleCount_2 rfl (lv_at hl 0 rfl) ?_
  refine pb_iload_n C dX0_rectangleCount_3 rfl (lv_at hl 1 rfl) ?_
  refine pb_catch (bc' := mc - mc) (bs' := ms - ms) C (pb_runVX (rest := [.int (iZ (0)), .ref (oL)]) C hG (hM) hBo (ci := 0) rfl (lw_V q1192 q1193 q1194 q51 q1195) ⟨rfl, hdX1_rectangleCount⟩ rfl hl.1 rfl (Nat.le_of_ble_eq_true rfl) ⟨show dd + 1 ≤ 15 from by omega, show 8 + (3 + 11) + 64 * dd ≤ 64 * 15 from by omega⟩ dX0_rectangleCount_4) (by omega) (by omega) [] ⟨0, 9, 12, 13⟩ [] hT (fun z9 h9 => absurd h9 List.not_mem_nil) (by decide) (by decide) q241 q337 fun q9 H1 hF1 => ?_
  refine pb_astore_n C dX0_rectangleCount_12 rfl hl (by decide) rfl fun ls hl => ?_
  have hl : lv_has ls 4 [(3, .ref (q9)), (0, .ref (b)), (1, .int (iZ (a1))), (2, .ref (oL))] := hl
  refine pb_ic C dX0_rectangleCount_13 ?_
  exact pb_iret C dX0_rectangleCount_14 (⟨_, rfl, rfl, hF1⟩)

set_option maxHeartbeats 1000000 in
theorem met_X0_partCount {w : pb_W} (l : Launch) {H : Heap} (b oL : Nat) (fs : List Value) (hBo : pb_R w H b 0 fs) (a1 : Int) (dd mc ms : Nat) (post : Int → Heap → Prop) (g0 : Nat → Value) (hd : dd ≤ 14) (hM : pb_M w l yX1_partCount cX1_partCount 2 (some .int) dd mc ms [.ref b, .int (iZ a1)] H (pb_qi post)) (hk : ∀ z H1, post z H1 → pb_F (fun q => q < w.2.2.2) H H1 ∧ H1[oL]? = H[oL]? ∧ -2147483648 ≤ z ∧ z ≤ 2147483647) (hA : pb_A w H oL 2 1 g0) (hz : w.2.2.2 ≤ oL) : pb_MW w l yX0_partCount cX0_partCount 4 (some .int) [(0, 9, 12, 13)] 15 (mc) (ms) [.ref (b), .int (iZ (a1)), .ref (oL)] H (pb_qi (fun k H2 => k = 0 ∧ ∃ z H1 g, post z H1 ∧ pb_A w H2 oL 2 1 (updV g 0 (.long (lZ z))) ∧ pb_Up oL H1 H2)) := by
  refine pb_ofWH (by decide +kernel) (Nat.le_of_ble_eq_true rfl) ?_
  intro p_ e_ s_ m_ ar_ bl_ me_ co_ ls C hh hG hl hT hN
  have hl : lv_has ls 4 [(0, .ref (b)), (1, .int (iZ (a1))), (2, .ref (oL))] := hl
  refine pb_aload_n C dX0_partCount_0 rfl (lv_at hl 2 rfl) ?_
  refine pb_ic C dX0_partCount_1 ?_
  refine pb_aload_n C dX0_partCount_2 rfl (lv_at hl 0 rfl) ?_
  refine pb_iload_n C dX0_partCount_3 rfl (lv_at hl 1 rfl) ?_
  refine pb_go_i (bc' := mc - mc) (bs' := ms - ms) (pb_runV (rest := [.int (iZ (0)), .ref (oL)]) C hG (hM) hBo (ci := 0) rfl (lw_V q1202 q1203 q1204 q51 q1205) ⟨rfl, hdX1_partCount⟩ rfl hl.1 rfl (Nat.le_of_ble_eq_true rfl) ⟨show dd + 1 ≤ 15 from by omega, show 8 + (2 + 11) + 64 * dd ≤ 64 * 15 from by omega⟩ dX0_partCount_4) (by omega) (by omega) (fun z_ H1 hp_ => ?_)
  obtain ⟨hF1, ho1, hzr⟩ := hk _ _ hp_
  have hG := hG.kept hF1
  have hA := hA.kept ho1
  refine pb_i2l C dX0_partCount_7 (x := z_) (by omega) ?_
  refine pb_last C hA (i := 0) (by omega) (by omega) dX0_partCount_8 fun H1_ hu_ hA => ?_
  have hG := hG.kept (hu_.z (by omega))
  refine pb_goto C dX0_partCount_9 (tgt := 15) (by decide) ?_
  refine pb_ic C dX0_partCount_15 ?_
  exact pb_iret C dX0_partCount_16 (⟨_, rfl, rfl, _, _, _, hp_, hA, hu_⟩)

set_option maxHeartbeats 1000000 in
theorem mex_X0_partCount_1 {w : pb_W} (l : Launch) {H : Heap} (b oL : Nat) (fs : List Value) (hBo : pb_R w H b 0 fs) (a1 : Int) (dd mc ms : Nat) (hd : dd ≤ 14) (hM : pb_X w l yX1_partCount cX1_partCount 2 (some .int) dd mc ms [.ref b, .int (iZ a1)] H RJ9) : pb_MW w l yX0_partCount cX0_partCount 4 (some .int) [(0, 9, 12, 13)] 15 (mc) (ms) [.ref (b), .int (iZ (a1)), .ref (oL)] H (pb_qi (fun k H1 => k = 1 ∧ pb_F (fun _ => True) H H1)) := by
  refine pb_ofWH (by decide +kernel) (Nat.le_of_ble_eq_true rfl) ?_
  intro p_ e_ s_ m_ ar_ bl_ me_ co_ ls C hh hG hl hT hN
  have hl : lv_has ls 4 [(0, .ref (b)), (1, .int (iZ (a1))), (2, .ref (oL))] := hl
  refine pb_aload_n C dX0_partCount_0 rfl (lv_at hl 2 rfl) ?_
  refine pb_ic C dX0_partCount_1 ?_
  refine pb_aload_n C dX0_partCount_2 rfl (lv_at hl 0 rfl) ?_
  refine pb_iload_n C dX0_partCount_3 rfl (lv_at hl 1 rfl) ?_
  refine pb_catch (bc' := mc - mc) (bs' := ms - ms) C (pb_runVX (rest := [.int (iZ (0)), .ref (oL)]) C hG (hM) hBo (ci := 0) rfl (lw_V q1202 q1203 q1204 q51 q1205) ⟨rfl, hdX1_partCount⟩ rfl hl.1 rfl (Nat.le_of_ble_eq_true rfl) ⟨show dd + 1 ≤ 15 from by omega, show 8 + (2 + 11) + 64 * dd ≤ 64 * 15 from by omega⟩ dX0_partCount_4) (by omega) (by omega) [] ⟨0, 9, 12, 13⟩ [] hT (fun z9 h9 => absurd h9 List.not_mem_nil) (by decide) (by decide) q241 q337 fun q9 H1 hF1 => ?_
  refine pb_astore_n C dX0_partCount_12 rfl hl (by decide) rfl fun ls hl => ?_
  have hl : lv_has ls 4 [(3, .ref (q9)), (0, .ref (b)), (1, .int (iZ (a1))), (2, .ref (oL))] := hl
  refine pb_ic C dX0_partCount_13 ?_
  exact pb_iret C dX0_partCount_14 (⟨_, rfl, rfl, hF1⟩)

set_option maxHeartbeats 1000000 in
theorem met_X0_partCountByCells {w : pb_W} (l : Launch) {H : Heap} (b oL : Nat) (fs : List Value) (hBo : pb_R w H b 0 fs) (a1 : Int) (dd mc ms : Nat) (post : Int → Heap → Prop) (g0 : Nat → Value) (hd : dd ≤ 14) (hM : pb_M w l yX1_partCountByCells cX1_partCountByCells 2 (some .int) dd mc ms [.ref b, .int (iZ a1)] H (pb_qi post)) (hk : ∀ z H1, post z H1 → pb_F (fun q => q < w.2.2.2) H H1 ∧ H1[oL]? = H[oL]? ∧ -2147483648 ≤ z ∧ z ≤ 2147483647) (hA : pb_A w H oL 2 1 g0) (hz : w.2.2.2 ≤ oL) : pb_MW w l yX0_partCountByCells cX0_partCountByCells 4 (some .int) [(0, 9, 12, 13)] 15 (mc) (ms) [.ref (b), .int (iZ (a1)), .ref (oL)] H (pb_qi (fun k H2 => k = 0 ∧ ∃ z H1 g, post z H1 ∧ pb_A w H2 oL 2 1 (updV g 0 (.long (lZ z))) ∧ pb_Up oL H1 H2)) := by
  refine pb_ofWH (by decide +kernel) (Nat.le_of_ble_eq_true rfl) ?_
  intro p_ e_ s_ m_ ar_ bl_ me_ co_ ls C hh hG hl hT hN
  have hl : lv_has ls 4 [(0, .ref (b)), (1, .int (iZ (a1))), (2, .ref (oL))] := hl
  refine pb_aload_n C dX0_partCountByCells_0 rfl (lv_at hl 2 rfl) ?_
  refine pb_ic C dX0_partCountByCells_1 ?_
  refine pb_aload_n C dX0_partCountByCells_2 rfl (lv_at hl 0 rfl) ?_
  refine pb_iload_n C dX0_partCountByCells_3 rfl (lv_at hl 1 rfl) ?_
  refine pb_go_i (bc' := mc - mc) (bs' := ms - ms) (pb_runV (rest := [.int (iZ (0)), .ref (oL)]) C hG (hM) hBo (ci := 0) rfl (lw_V q1209 q1210 q1211 q51 q1212) ⟨rfl, hdX1_partCountByCells⟩ rfl hl.1 rfl (Nat.le_of_ble_eq_true rfl) ⟨show dd + 1 ≤ 15 from by omega, show 8 + (2 + 11) + 64 * dd ≤ 64 * 15 from by omega⟩ dX0_partCountByCells_4) (by omega) (by omega) (fun z_ H1 hp_ => ?_)
  obtain ⟨hF1, ho1, hzr⟩ := hk _ _ hp_
  have hG := hG.kept hF1
  have hA := hA.kept ho1
  refine pb_i2l C dX0_partCountByCells_7 (x := z_) (by omega) ?_
  refine pb_last C hA (i := 0) (by omega) (by omega) dX0_partCountByCells_8 fun H1_ hu_ hA => ?_
  have hG := hG.kept (hu_.z (by omega))
  refine pb_goto C dX0_partCountByCells_9 (tgt := 15) (by decide) ?_
  refine pb_ic C dX0_partCountByCells_15 ?_
  exact pb_iret C dX0_partCountByCells_16 (⟨_, rfl, rfl, _, _, _, hp_, hA, hu_⟩)

set_option maxHeartbeats 1000000 in
theorem mex_X0_partCountByCells_1 {w : pb_W} (l : Launch) {H : Heap} (b oL : Nat) (fs : List Value) (hBo : pb_R w H b 0 fs) (a1 : Int) (dd mc ms : Nat) (hd : dd ≤ 14) (hM : pb_X w l yX1_partCountByCells cX1_partCountByCells 2 (some .int) dd mc ms [.ref b, .int (iZ a1)] H RJ9) : pb_MW w l yX0_partCountByCells cX0_partCountByCells 4 (some .int) [(0, 9, 12, 13)] 15 (mc) (ms) [.ref (b), .int (iZ (a1)), .ref (oL)] H (pb_qi (fun k H1 => k = 1 ∧ pb_F (fun _ => True) H H1)) := by
  refine pb_ofWH (by decide +kernel) (Nat.le_of_ble_eq_true rfl) ?_
  intro p_ e_ s_ m_ ar_ bl_ me_ co_ ls C hh hG hl hT hN
  have hl : lv_has ls 4 [(0, .ref (b)), (1, .int (iZ (a1))), (2, .ref (oL))] := hl
  refine pb_aload_n C dX0_partCountByCells_0 rfl (lv_at hl 2 rfl) ?_
  refine pb_ic C dX0_partCountByCells_1 ?_
  refine pb_aload_n C dX0_partCountByCells_2 rfl (lv_at hl 0 rfl) ?_
  refine pb_iload_n C dX0_partCountByCells_3 rfl (lv_at hl 1 rfl) ?_
  refine pb_catch (bc' := mc - mc) (bs' := ms - ms) C (pb_runVX (rest := [.int (iZ (0)), .ref (oL)]) C hG (hM) hBo (ci := 0) rfl (lw_V q1209 q1210 q1211 q51 q1212) ⟨rfl, hdX1_partCountByCells⟩ rfl hl.1 rfl (Nat.le_of_ble_eq_true rfl) ⟨show dd + 1 ≤ 15 from by omega, show 8 + (2 + 11) + 64 * dd ≤ 64 * 15 from by omega⟩ dX0_partCountByCells_4) (by omega) (by omega) [] ⟨0, 9, 12, 13⟩ [] hT (fun z9 h9 => absurd h9 List.not_mem_nil) (by decide) (by decide) q241 q337 fun q9 H1 hF1 => ?_
  refine pb_astore_n C dX0_partCountByCells_12 rfl hl (by decide) rfl fun ls hl => ?_
  have hl : lv_has ls 4 [(3, .ref (q9)), (0, .ref (b)), (1, .int (iZ (a1))), (2, .ref (oL))] := hl
  refine pb_ic C dX0_partCountByCells_13 ?_
  exact pb_iret C dX0_partCountByCells_14 (⟨_, rfl, rfl, hF1⟩)

set_option maxHeartbeats 1000000 in
theorem met_X0_holeCount {w : pb_W} (l : Launch) {H : Heap} (b oL : Nat) (fs : List Value) (hBo : pb_R w H b 0 fs) (a1 : Int) (dd mc ms : Nat) (post : Int → Heap → Prop) (g0 : Nat → Value) (hd : dd ≤ 14) (hM : pb_M w l yX1_holeCount cX1_holeCount 5 (some .int) dd mc ms [.ref b, .int (iZ a1)] H (pb_qi post)) (hk : ∀ z H1, post z H1 → pb_F (fun q => q < w.2.2.2) H H1 ∧ H1[oL]? = H[oL]? ∧ -2147483648 ≤ z ∧ z ≤ 2147483647) (hA : pb_A w H oL 2 1 g0) (hz : w.2.2.2 ≤ oL) : pb_MW w l yX0_holeCount cX0_holeCount 4 (some .int) [(0, 9, 12, 13)] 15 (mc) (ms) [.ref (b), .int (iZ (a1)), .ref (oL)] H (pb_qi (fun k H2 => k = 0 ∧ ∃ z H1 g, post z H1 ∧ pb_A w H2 oL 2 1 (updV g 0 (.long (lZ z))) ∧ pb_Up oL H1 H2)) := by
  refine pb_ofWH (by decide +kernel) (Nat.le_of_ble_eq_true rfl) ?_
  intro p_ e_ s_ m_ ar_ bl_ me_ co_ ls C hh hG hl hT hN
  have hl : lv_has ls 4 [(0, .ref (b)), (1, .int (iZ (a1))), (2, .ref (oL))] := hl
  refine pb_aload_n C dX0_holeCount_0 rfl (lv_at hl 2 rfl) ?_
  refine pb_ic C dX0_holeCount_1 ?_
  refine pb_aload_n C dX0_holeCount_2 rfl (lv_at hl 0 rfl) ?_
  refine pb_iload_n C dX0_holeCount_3 rfl (lv_at hl 1 rfl) ?_
  refine pb_go_i (bc' := mc - mc) (bs' := ms - ms) (pb_runV (rest := [.int (iZ (0)), .ref (oL)]) C hG (hM) hBo (ci := 0) rfl (lw_V q1220 q1221 q1222 q51 q1223) ⟨rfl, hdX1_holeCount⟩ rfl hl.1 rfl (Nat.le_of_ble_eq_true rfl) ⟨show dd + 1 ≤ 15 from by omega, show 8 + (5 + 11) + 64 * dd ≤ 64 * 15 from by omega⟩ dX0_holeCount_4) (by omega) (by omega) (fun z_ H1 hp_ => ?_)
  obtain ⟨hF1, ho1, hzr⟩ := hk _ _ hp_
  have hG := hG.kept hF1
  have hA := hA.kept ho1
  refine pb_i2l C dX0_holeCount_7 (x := z_) (by omega) ?_
  refine pb_last C hA (i := 0) (by omega) (by omega) dX0_holeCount_8 fun H1_ hu_ hA => ?_
  have hG := hG.kept (hu_.z (by omega))
  refine pb_goto C dX0_holeCount_9 (tgt := 15) (by decide) ?_
  refine pb_ic C dX0_holeCount_15 ?_
  exact pb_iret C dX0_holeCount_16 (⟨_, rfl, rfl, _, _, _, hp_, hA, hu_⟩)

set_option maxHeartbeats 1000000 in
theorem mex_X0_holeCount_1 {w : pb_W} (l : Launch) {H : Heap} (b oL : Nat) (fs : List Value) (hBo : pb_R w H b 0 fs) (a1 : Int) (dd mc ms : Nat) (hd : dd ≤ 14) (hM : pb_X w l yX1_holeCount cX1_holeCount 5 (some .int) dd mc ms [.ref b, .int (iZ a1)] H RJ9) : pb_MW w l yX0_holeCount cX0_holeCount 4 (some .int) [(0, 9, 12, 13)] 15 (mc) (ms) [.ref (b), .int (iZ (a1)), .ref (oL)] H (pb_qi (fun k H1 => k = 1 ∧ pb_F (fun _ => True) H H1)) := by
  refine pb_ofWH (by decide +kernel) (Nat.le_of_ble_eq_true rfl) ?_
  intro p_ e_ s_ m_ ar_ bl_ me_ co_ ls C hh hG hl hT hN
  have hl : lv_has ls 4 [(0, .ref (b)), (1, .int (iZ (a1))), (2, .ref (oL))] := hl
  refine pb_aload_n C dX0_holeCount_0 rfl (lv_at hl 2 rfl) ?_
  refine pb_ic C dX0_holeCount_1 ?_
  refine pb_aload_n C dX0_holeCount_2 rfl (lv_at hl 0 rfl) ?_
  refine pb_iload_n C dX0_holeCount_3 rfl (lv_at hl 1 rfl) ?_
  refine pb_catch (bc' := mc - mc) (bs' := ms - ms) C (pb_runVX (rest := [.int (iZ (0)), .ref (oL)]) C hG (hM) hBo (ci := 0) rfl (lw_V q1220 q1221 q1222 q51 q1223) ⟨rfl, hdX1_holeCount⟩ rfl hl.1 rfl (Nat.le_of_ble_eq_true rfl) ⟨show dd + 1 ≤ 15 from by omega, show 8 + (5 + 11) + 64 * dd ≤ 64 * 15 from by omega⟩ dX0_holeCount_4) (by omega) (by omega) [] ⟨0, 9, 12, 13⟩ [] hT (fun z9 h9 => absurd h9 List.not_mem_nil) (by decide) (by decide) q241 q337 fun q9 H1 hF1 => ?_
  refine pb_astore_n C dX0_holeCount_12 rfl hl (by decide) rfl fun ls hl => ?_
  have hl : lv_has ls 4 [(3, .ref (q9)), (0, .ref (b)), (1, .int (iZ (a1))), (2, .ref (oL))] := hl
  refine pb_ic C dX0_holeCount_13 ?_
  exact pb_iret C dX0_holeCount_14 (⟨_, rfl, rfl, hF1⟩)

set_option maxHeartbeats 1000000 in
theorem met_X0_holeCountByCells {w : pb_W} (l : Launch) {H : Heap} (b oL : Nat) (fs : List Value) (hBo : pb_R w H b 0 fs) (a1 : Int) (dd mc ms : Nat) (post : Int → Heap → Prop) (g0 : Nat → Value) (hd : dd ≤ 14) (hM : pb_M w l yX1_holeCountByCells cX1_holeCountByCells 2 (some .int) dd mc ms [.ref b, .int (iZ a1)] H (pb_qi post)) (hk : ∀ z H1, post z H1 → pb_F (fun q => q < w.2.2.2) H H1 ∧ H1[oL]? = H[oL]? ∧ -2147483648 ≤ z ∧ z ≤ 2147483647) (hA : pb_A w H oL 2 1 g0) (hz : w.2.2.2 ≤ oL) : pb_MW w l yX0_holeCountByCells cX0_holeCountByCells 4 (some .int) [(0, 9, 12, 13)] 15 (mc) (ms) [.ref (b), .int (iZ (a1)), .ref (oL)] H (pb_qi (fun k H2 => k = 0 ∧ ∃ z H1 g, post z H1 ∧ pb_A w H2 oL 2 1 (updV g 0 (.long (lZ z))) ∧ pb_Up oL H1 H2)) := by
  refine pb_ofWH (by decide +kernel) (Nat.le_of_ble_eq_true rfl) ?_
  intro p_ e_ s_ m_ ar_ bl_ me_ co_ ls C hh hG hl hT hN
  have hl : lv_has ls 4 [(0, .ref (b)), (1, .int (iZ (a1))), (2, .ref (oL))] := hl
  refine pb_aload_n C dX0_holeCountByCells_0 rfl (lv_at hl 2 rfl) ?_
  refine pb_ic C dX0_holeCountByCells_1 ?_
  refine pb_aload_n C dX0_holeCountByCells_2 rfl (lv_at hl 0 rfl) ?_
  refine pb_iload_n C dX0_holeCountByCells_3 rfl (lv_at hl 1 rfl) ?_
  refine pb_go_i (bc' := mc - mc) (bs' := ms - ms) (pb_runV (rest := [.int (iZ (0)), .ref (oL)]) C hG (hM) hBo (ci := 0) rfl (lw_V q1326 q1327 q1328 q51 q1329) ⟨rfl, hdX1_holeCountByCells⟩ rfl hl.1 rfl (Nat.le_of_ble_eq_true rfl) ⟨show dd + 1 ≤ 15 from by omega, show 8 + (2 + 11) + 64 * dd ≤ 64 * 15 from by omega⟩ dX0_holeCountByCells_4) (by omega) (by omega) (fun z_ H1 hp_ => ?_)
  obtain ⟨hF1, ho1, hzr⟩ := hk _ _ hp_
  have hG := hG.kept hF1
  have hA := hA.kept ho1
  refine pb_i2l C dX0_holeCountByCells_7 (x := z_) (by omega) ?_
  refine pb_last C hA (i := 0) (by omega) (by omega) dX0_holeCountByCells_8 fun H1_ hu_ hA => ?_
  have hG := hG.kept (hu_.z (by omega))
  refine pb_goto C dX0_holeCountByCells_9 (tgt := 15) (by decide) ?_
  refine pb_ic C dX0_holeCountByCells_15 ?_
  exact pb_iret C dX0_holeCountByCells_16 (⟨_, rfl, rfl, _, _, _, hp_, hA, hu_⟩)

set_option maxHeartbeats 1000000 in
theorem mex_X0_holeCountByCells_1 {w : pb_W} (l : Launch) {H : Heap} (b oL : Nat) (fs : List Value) (hBo : pb_R w H b 0 fs) (a1 : Int) (dd mc ms : Nat) (hd : dd ≤ 14) (hM : pb_X w l yX1_holeCountByCells cX1_holeCountByCells 2 (some .int) dd mc ms [.ref b, .int (iZ a1)] H RJ9) : pb_MW w l yX0_holeCountByCells cX0_holeCountByCells 4 (some .int) [(0, 9, 12, 13)] 15 (mc) (ms) [.ref (b), .int (iZ (a1)), .ref (oL)] H (pb_qi (fun k H1 => k = 1 ∧ pb_F (fun _ => True) H H1)) := by
  refine pb_ofWH (by decide +kernel) (Nat.le_of_ble_eq_true rfl) ?_
  intro p_ e_ s_ m_ ar_ bl_ me_ co_ ls C hh hG hl hT hN
  have hl : lv_has ls 4 [(0, .ref (b)), (1, .int (iZ (a1))), (2, .ref (oL))] := hl
  refine pb_aload_n C dX0_holeCountByCells_0 rfl (lv_at hl 2 rfl) ?_
  refine pb_ic C dX0_holeCountByCells_1 ?_
  refine pb_aload_n C dX0_holeCountByCells_2 rfl (lv_at hl 0 rfl) ?_
  refine pb_iload_n C dX0_holeCountByCells_3 rfl (lv_at hl 1 rfl) ?_
  refine pb_catch (bc' := mc - mc) (bs' := ms - ms) C (pb_runVX (rest := [.int (iZ (0)), .ref (oL)]) C hG (hM) hBo (ci := 0) rfl (lw_V q1326 q1327 q1328 q51 q1329) ⟨rfl, hdX1_holeCountByCells⟩ rfl hl.1 rfl (Nat.le_of_ble_eq_true rfl) ⟨show dd + 1 ≤ 15 from by omega, show 8 + (2 + 11) + 64 * dd ≤ 64 * 15 from by omega⟩ dX0_holeCountByCells_4) (by omega) (by omega) [] ⟨0, 9, 12, 13⟩ [] hT (fun z9 h9 => absurd h9 List.not_mem_nil) (by decide) (by decide) q241 q337 fun q9 H1 hF1 => ?_
  refine pb_astore_n C dX0_holeCountByCells_12 rfl hl (by decide) rfl fun ls hl => ?_
  have hl : lv_has ls 4 [(3, .ref (q9)), (0, .ref (b)), (1, .int (iZ (a1))), (2, .ref (oL))] := hl
  refine pb_ic C dX0_holeCountByCells_13 ?_
  exact pb_iret C dX0_holeCountByCells_14 (⟨_, rfl, rfl, hF1⟩)

set_option maxHeartbeats 1000000 in
theorem met_X0_isSame {w : pb_W} (l : Launch) {H : Heap} (b oL : Nat) (fs : List Value) (hBo : pb_R w H b 0 fs) (a1 : Int) (a2 : Int) (dd mc ms : Nat) (post : Int → Heap → Prop) (g0 : Nat → Value) (hd : dd ≤ 14) (hM : pb_M w l yX1_isSame cX1_isSame 4 (some .boolean) dd mc ms [.ref b, .int (iZ a1), .int (iZ a2)] H (pb_qi post)) (hk : ∀ z H1, post z H1 → pb_F (fun q => q < w.2.2.2) H H1 ∧ H1[oL]? = H[oL]? ∧ 0 ≤ z ∧ z ≤ 1) (hA : pb_A w H oL 2 1 g0) (hz : w.2.2.2 ≤ oL) : pb_MW w l yX0_isSame cX0_isSame 5 (some .int) [(0, 17, 20, 13)] 15 (mc) (ms) [.ref (b), .int (iZ (a1)), .int (iZ (a2)), .ref (oL)] H (pb_qi (fun k H2 => k = 0 ∧ ∃ z H1 g, post z H1 ∧ pb_A w H2 oL 2 1 (updV g 0 (.long (lZ z))) ∧ pb_Up oL H1 H2)) := by
  refine pb_ofWH (by decide +kernel) (Nat.le_of_ble_eq_true rfl) ?_
  intro p_ e_ s_ m_ ar_ bl_ me_ co_ ls C hh hG hl hT hN
  have hl : lv_has ls 5 [(0, .ref (b)), (1, .int (iZ (a1))), (2, .int (iZ (a2))), (3, .ref (oL))] := hl
  refine pb_aload_n C dX0_isSame_0 rfl (lv_at hl 3 rfl) ?_
  refine pb_ic C dX0_isSame_1 ?_
  refine pb_aload_n C dX0_isSame_2 rfl (lv_at hl 0 rfl) ?_
  refine pb_iload_n C dX0_isSame_3 rfl (lv_at hl 1 rfl) ?_
  refine pb_iload_n C dX0_isSame_4 rfl (lv_at hl 2 rfl) ?_
  refine pb_go_i (bc' := mc - mc) (bs' := ms - ms) (pb_runV (rest := [.int (iZ (0)), .ref (oL)]) C hG (hM) hBo (ci := 0) rfl (lw_V q1333 q1334 q1335 q51 q1336) ⟨rfl, hdX1_isSame⟩ rfl hl.1 rfl (Nat.le_of_ble_eq_true rfl) ⟨show dd + 1 ≤ 15 from by omega, show 8 + (4 + 11) + 64 * dd ≤ 64 * 15 from by omega⟩ dX0_isSame_5) (by omega) (by omega) (fun z_ H1 hp_ => ?_)
  obtain ⟨hF1, ho1, hzr⟩ := hk _ _ hp_
  have hG := hG.kept hF1
  have hA := hA.kept ho1
  refine pb_if_eq C dX0_isSame_8 (x := z_) (tgt := 15) (by decide) (by omega) (fun c8_ => ?_) (fun c8_ => ?_)
  · obtain rfl : z_ = 0 := c8_
    refine pb_lc C dX0_isSame_15 (0) (by decide +kernel) ?_
    refine pb_last C hA (i := 0) (by omega) (by omega) dX0_isSame_16 fun H1_ hu_ hA => ?_
    have hG := hG.kept (hu_.z (by omega))
    refine pb_goto C dX0_isSame_17 (tgt := 24) (by decide) ?_
    refine pb_ic C dX0_isSame_24 ?_
    exact pb_iret C dX0_isSame_25 (⟨_, rfl, rfl, _, _, _, hp_, hA, hu_⟩)
  · obtain rfl : z_ = 1 := by omega
    refine pb_lc C dX0_isSame_11 (1) (by decide +kernel) ?_
    refine pb_goto C dX0_isSame_12 (tgt := 16) (by decide) ?_
    refine pb_last C hA (i := 0) (by omega) (by omega) dX0_isSame_16 fun H2_ hu_ hA => ?_
    have hG := hG.kept (hu_.z (by omega))
    refine pb_goto C dX0_isSame_17 (tgt := 24) (by decide) ?_
    refine pb_ic C dX0_isSame_24 ?_
    exact pb_iret C dX0_isSame_25 (⟨_, rfl, rfl, _, _, _, hp_, hA, hu_⟩)

set_option maxHeartbeats 1000000 in
theorem mex_X0_isSame_1 {w : pb_W} (l : Launch) {H : Heap} (b oL : Nat) (fs : List Value) (hBo : pb_R w H b 0 fs) (a1 : Int) (a2 : Int) (dd mc ms : Nat) (hd : dd ≤ 14) (hM : pb_X w l yX1_isSame cX1_isSame 4 (some .boolean) dd mc ms [.ref b, .int (iZ a1), .int (iZ a2)] H RJ9) : pb_MW w l yX0_isSame cX0_isSame 5 (some .int) [(0, 17, 20, 13)] 15 (mc) (ms) [.ref (b), .int (iZ (a1)), .int (iZ (a2)), .ref (oL)] H (pb_qi (fun k H1 => k = 1 ∧ pb_F (fun _ => True) H H1)) := by
  refine pb_ofWH (by decide +kernel) (Nat.le_of_ble_eq_true rfl) ?_
  intro p_ e_ s_ m_ ar_ bl_ me_ co_ ls C hh hG hl hT hN
  have hl : lv_has ls 5 [(0, .ref (b)), (1, .int (iZ (a1))), (2, .int (iZ (a2))), (3, .ref (oL))] := hl
  refine pb_aload_n C dX0_isSame_0 rfl (lv_at hl 3 rfl) ?_
  refine pb_ic C dX0_isSame_1 ?_
  refine pb_aload_n C dX0_isSame_2 rfl (lv_at hl 0 rfl) ?_
  refine pb_iload_n C dX0_isSame_3 rfl (lv_at hl 1 rfl) ?_
  refine pb_iload_n C dX0_isSame_4 rfl (lv_at hl 2 rfl) ?_
  refine pb_catch (bc' := mc - mc) (bs' := ms - ms) C (pb_runVX (rest := [.int (iZ (0)), .ref (oL)]) C hG (hM) hBo (ci := 0) rfl (lw_V q1333 q1334 q1335 q51 q1336) ⟨rfl, hdX1_isSame⟩ rfl hl.1 rfl (Nat.le_of_ble_eq_true rfl) ⟨show dd + 1 ≤ 15 from by omega, show 8 + (4 + 11) + 64 * dd ≤ 64 * 15 from by omega⟩ dX0_isSame_5) (by omega) (by omega) [] ⟨0, 17, 20, 13⟩ [] hT (fun z9 h9 => absurd h9 List.not_mem_nil) (by decide) (by decide) q241 q337 fun q9 H1 hF1 => ?_
  refine pb_astore C dX0_isSame_20 hl (by decide) rfl fun ls hl => ?_
  have hl : lv_has ls 5 [(4, .ref (q9)), (0, .ref (b)), (1, .int (iZ (a1))), (2, .int (iZ (a2))), (3, .ref (oL))] := hl
  refine pb_ic C dX0_isSame_22 ?_
  exact pb_iret C dX0_isSame_23 (⟨_, rfl, rfl, hF1⟩)

set_option maxHeartbeats 1000000 in
theorem met_X0_covers {w : pb_W} (l : Launch) {H : Heap} (b oL : Nat) (fs : List Value) (hBo : pb_R w H b 0 fs) (a1 : Int) (a2 : Int) (dd mc ms : Nat) (post : Int → Heap → Prop) (g0 : Nat → Value) (hd : dd ≤ 14) (hM : pb_M w l yX1_covers cX1_covers 4 (some .boolean) dd mc ms [.ref b, .int (iZ a1), .int (iZ a2)] H (pb_qi post)) (hk : ∀ z H1, post z H1 → pb_F (fun q => q < w.2.2.2) H H1 ∧ H1[oL]? = H[oL]? ∧ 0 ≤ z ∧ z ≤ 1) (hA : pb_A w H oL 2 1 g0) (hz : w.2.2.2 ≤ oL) : pb_MW w l yX0_covers cX0_covers 5 (some .int) [(0, 17, 20, 13)] 15 (mc) (ms) [.ref (b), .int (iZ (a1)), .int (iZ (a2)), .ref (oL)] H (pb_qi (fun k H2 => k = 0 ∧ ∃ z H1 g, post z H1 ∧ pb_A w H2 oL 2 1 (updV g 0 (.long (lZ z))) ∧ pb_Up oL H1 H2)) := by
  refine pb_ofWH (by decide +kernel) (Nat.le_of_ble_eq_true rfl) ?_
  intro p_ e_ s_ m_ ar_ bl_ me_ co_ ls C hh hG hl hT hN
  have hl : lv_has ls 5 [(0, .ref (b)), (1, .int (iZ (a1))), (2, .int (iZ (a2))), (3, .ref (oL))] := hl
  refine pb_aload_n C dX0_covers_0 rfl (lv_at hl 3 rfl) ?_
  refine pb_ic C dX0_covers_1 ?_
  refine pb_aload_n C dX0_covers_2 rfl (lv_at hl 0 rfl) ?_
  refine pb_iload_n C dX0_covers_3 rfl (lv_at hl 1 rfl) ?_
  refine pb_iload_n C dX0_covers_4 rfl (lv_at hl 2 rfl) ?_
  refine pb_go_i (bc' := mc - mc) (bs' := ms - ms) (pb_runV (rest := [.int (iZ (0)), .ref (oL)]) C hG (hM) hBo (ci := 0) rfl (lw_V q1342 q1343 q1344 q51 q1345) ⟨rfl, hdX1_covers⟩ rfl hl.1 rfl (Nat.le_of_ble_eq_true rfl) ⟨show dd + 1 ≤ 15 from by omega, show 8 + (4 + 11) + 64 * dd ≤ 64 * 15 from by omega⟩ dX0_covers_5) (by omega) (by omega) (fun z_ H1 hp_ => ?_)
  obtain ⟨hF1, ho1, hzr⟩ := hk _ _ hp_
  have hG := hG.kept hF1
  have hA := hA.kept ho1
  refine pb_if_eq C dX0_covers_8 (x := z_) (tgt := 15) (by decide) (by omega) (fun c8_ => ?_) (fun c8_ => ?_)
  · obtain rfl : z_ = 0 := c8_
    refine pb_lc C dX0_covers_15 (0) (by decide +kernel) ?_
    refine pb_last C hA (i := 0) (by omega) (by omega) dX0_covers_16 fun H1_ hu_ hA => ?_
    have hG := hG.kept (hu_.z (by omega))
    refine pb_goto C dX0_covers_17 (tgt := 24) (by decide) ?_
    refine pb_ic C dX0_covers_24 ?_
    exact pb_iret C dX0_covers_25 (⟨_, rfl, rfl, _, _, _, hp_, hA, hu_⟩)
  · obtain rfl : z_ = 1 := by omega
    refine pb_lc C dX0_covers_11 (1) (by decide +kernel) ?_
    refine pb_goto C dX0_covers_12 (tgt := 16) (by decide) ?_
    refine pb_last C hA (i := 0) (by omega) (by omega) dX0_covers_16 fun H2_ hu_ hA => ?_
    have hG := hG.kept (hu_.z (by omega))
    refine pb_goto C dX0_covers_17 (tgt := 24) (by decide) ?_
    refine pb_ic C dX0_covers_24 ?_
    exact pb_iret C dX0_covers_25 (⟨_, rfl, rfl, _, _, _, hp_, hA, hu_⟩)

set_option maxHeartbeats 1000000 in
theorem mex_X0_covers_1 {w : pb_W} (l : Launch) {H : Heap} (b oL : Nat) (fs : List Value) (hBo : pb_R w H b 0 fs) (a1 : Int) (a2 : Int) (dd mc ms : Nat) (hd : dd ≤ 14) (hM : pb_X w l yX1_covers cX1_covers 4 (some .boolean) dd mc ms [.ref b, .int (iZ a1), .int (iZ a2)] H RJ9) : pb_MW w l yX0_covers cX0_covers 5 (some .int) [(0, 17, 20, 13)] 15 (mc) (ms) [.ref (b), .int (iZ (a1)), .int (iZ (a2)), .ref (oL)] H (pb_qi (fun k H1 => k = 1 ∧ pb_F (fun _ => True) H H1)) := by
  refine pb_ofWH (by decide +kernel) (Nat.le_of_ble_eq_true rfl) ?_
  intro p_ e_ s_ m_ ar_ bl_ me_ co_ ls C hh hG hl hT hN
  have hl : lv_has ls 5 [(0, .ref (b)), (1, .int (iZ (a1))), (2, .int (iZ (a2))), (3, .ref (oL))] := hl
  refine pb_aload_n C dX0_covers_0 rfl (lv_at hl 3 rfl) ?_
  refine pb_ic C dX0_covers_1 ?_
  refine pb_aload_n C dX0_covers_2 rfl (lv_at hl 0 rfl) ?_
  refine pb_iload_n C dX0_covers_3 rfl (lv_at hl 1 rfl) ?_
  refine pb_iload_n C dX0_covers_4 rfl (lv_at hl 2 rfl) ?_
  refine pb_catch (bc' := mc - mc) (bs' := ms - ms) C (pb_runVX (rest := [.int (iZ (0)), .ref (oL)]) C hG (hM) hBo (ci := 0) rfl (lw_V q1342 q1343 q1344 q51 q1345) ⟨rfl, hdX1_covers⟩ rfl hl.1 rfl (Nat.le_of_ble_eq_true rfl) ⟨show dd + 1 ≤ 15 from by omega, show 8 + (4 + 11) + 64 * dd ≤ 64 * 15 from by omega⟩ dX0_covers_5) (by omega) (by omega) [] ⟨0, 17, 20, 13⟩ [] hT (fun z9 h9 => absurd h9 List.not_mem_nil) (by decide) (by decide) q241 q337 fun q9 H1 hF1 => ?_
  refine pb_astore C dX0_covers_20 hl (by decide) rfl fun ls hl => ?_
  have hl : lv_has ls 5 [(4, .ref (q9)), (0, .ref (b)), (1, .int (iZ (a1))), (2, .int (iZ (a2))), (3, .ref (oL))] := hl
  refine pb_ic C dX0_covers_22 ?_
  exact pb_iret C dX0_covers_23 (⟨_, rfl, rfl, hF1⟩)

set_option maxHeartbeats 1000000 in
theorem met_X0_left {w : pb_W} (l : Launch) {H : Heap} (b oL : Nat) (fs : List Value) (hBo : pb_R w H b 0 fs) (a1 : Int) (dd mc ms : Nat) (post : Int → Heap → Prop) (g0 : Nat → Value) (hd : dd ≤ 14) (hM : pb_M w l yX1_left cX1_left 2 (some .int) dd mc ms [.ref b, .int (iZ a1)] H (pb_qi post)) (hk : ∀ z H1, post z H1 → pb_F (fun q => q < w.2.2.2) H H1 ∧ H1[oL]? = H[oL]? ∧ -2147483648 ≤ z ∧ z ≤ 2147483647) (hA : pb_A w H oL 2 1 g0) (hz : w.2.2.2 ≤ oL) : pb_MW w l yX0_left cX0_left 4 (some .int) [(0, 9, 12, 13), (0, 9, 15, 64)] 15 (mc) (ms) [.ref (b), .int (iZ (a1)), .ref (oL)] H (pb_qi (fun k H2 => k = 0 ∧ ∃ z H1 g, post z H1 ∧ pb_A w H2 oL 2 1 (updV g 0 (.long (lZ z))) ∧ pb_Up oL H1 H2)) := by
  refine pb_ofWH (by decide +kernel) (Nat.le_of_ble_eq_true rfl) ?_
  intro p_ e_ s_ m_ ar_ bl_ me_ co_ ls C hh hG hl hT hN
  have hl : lv_has ls 4 [(0, .ref (b)), (1, .int (iZ (a1))), (2, .ref (oL))] := hl
  refine pb_aload_n C dX0_left_0 rfl (lv_at hl 2 rfl) ?_
  refine pb_ic C dX0_left_1 ?_
  refine pb_aload_n C dX0_left_2 rfl (lv_at hl 0 rfl) ?_
  refine pb_iload_n C dX0_left_3 rfl (lv_at hl 1 rfl) ?_
  refine pb_go_i (bc' := mc - mc) (bs' := ms - ms) (pb_runV (rest := [.int (iZ (0)), .ref (oL)]) C hG (hM) hBo (ci := 0) rfl (lw_V q1349 q1350 q1351 q51 q1352) ⟨rfl, hdX1_left⟩ rfl hl.1 rfl (Nat.le_of_ble_eq_true rfl) ⟨show dd + 1 ≤ 15 from by omega, show 8 + (2 + 11) + 64 * dd ≤ 64 * 15 from by omega⟩ dX0_left_4) (by omega) (by omega) (fun z_ H1 hp_ => ?_)
  obtain ⟨hF1, ho1, hzr⟩ := hk _ _ hp_
  have hG := hG.kept hF1
  have hA := hA.kept ho1
  refine pb_i2l C dX0_left_7 (x := z_) (by omega) ?_
  refine pb_last C hA (i := 0) (by omega) (by omega) dX0_left_8 fun H1_ hu_ hA => ?_
  have hG := hG.kept (hu_.z (by omega))
  refine pb_goto C dX0_left_9 (tgt := 18) (by decide) ?_
  refine pb_ic C dX0_left_18 ?_
  exact pb_iret C dX0_left_19 (⟨_, rfl, rfl, _, _, _, hp_, hA, hu_⟩)

set_option maxHeartbeats 1000000 in
theorem mex_X0_left_1 {w : pb_W} (l : Launch) {H : Heap} (b oL : Nat) (fs : List Value) (hBo : pb_R w H b 0 fs) (a1 : Int) (dd mc ms : Nat) (hd : dd ≤ 14) (hM : pb_X w l yX1_left cX1_left 2 (some .int) dd mc ms [.ref b, .int (iZ a1)] H RJ9) : pb_MW w l yX0_left cX0_left 4 (some .int) [(0, 9, 12, 13), (0, 9, 15, 64)] 15 (mc) (ms) [.ref (b), .int (iZ (a1)), .ref (oL)] H (pb_qi (fun k H1 => k = 1 ∧ pb_F (fun _ => True) H H1)) := by
  refine pb_ofWH (by decide +kernel) (Nat.le_of_ble_eq_true rfl) ?_
  intro p_ e_ s_ m_ ar_ bl_ me_ co_ ls C hh hG hl hT hN
  have hl : lv_has ls 4 [(0, .ref (b)), (1, .int (iZ (a1))), (2, .ref (oL))] := hl
  refine pb_aload_n C dX0_left_0 rfl (lv_at hl 2 rfl) ?_
  refine pb_ic C dX0_left_1 ?_
  refine pb_aload_n C dX0_left_2 rfl (lv_at hl 0 rfl) ?_
  refine pb_iload_n C dX0_left_3 rfl (lv_at hl 1 rfl) ?_
  refine pb_catch (bc' := mc - mc) (bs' := ms - ms) C (pb_runVX (rest := [.int (iZ (0)), .ref (oL)]) C hG (hM) hBo (ci := 0) rfl (lw_V q1349 q1350 q1351 q51 q1352) ⟨rfl, hdX1_left⟩ rfl hl.1 rfl (Nat.le_of_ble_eq_true rfl) ⟨show dd + 1 ≤ 15 from by omega, show 8 + (2 + 11) + 64 * dd ≤ 64 * 15 from by omega⟩ dX0_left_4) (by omega) (by omega) [] ⟨0, 9, 12, 13⟩ [⟨0, 9, 15, 64⟩] hT (fun z9 h9 => absurd h9 List.not_mem_nil) (by decide) (by decide) q241 q337 fun q9 H1 hF1 => ?_
  refine pb_astore_n C dX0_left_12 rfl hl (by decide) rfl fun ls hl => ?_
  have hl : lv_has ls 4 [(3, .ref (q9)), (0, .ref (b)), (1, .int (iZ (a1))), (2, .ref (oL))] := hl
  refine pb_ic C dX0_left_13 ?_
  exact pb_iret C dX0_left_14 (⟨_, rfl, rfl, hF1⟩)

set_option maxHeartbeats 1000000 in
theorem mex_X0_left_2 {w : pb_W} (l : Launch) {H : Heap} (b oL : Nat) (fs : List Value) (hBo : pb_R w H b 0 fs) (a1 : Int) (dd mc ms : Nat) (hd : dd ≤ 14) (hM : pb_X w l yX1_left cX1_left 2 (some .int) dd mc ms [.ref b, .int (iZ a1)] H RJ16) : pb_MW w l yX0_left cX0_left 4 (some .int) [(0, 9, 12, 13), (0, 9, 15, 64)] 15 (mc) (ms) [.ref (b), .int (iZ (a1)), .ref (oL)] H (pb_qi (fun k H1 => k = 2 ∧ pb_F (fun _ => True) H H1)) := by
  refine pb_ofWH (by decide +kernel) (Nat.le_of_ble_eq_true rfl) ?_
  intro p_ e_ s_ m_ ar_ bl_ me_ co_ ls C hh hG hl hT hN
  have hl : lv_has ls 4 [(0, .ref (b)), (1, .int (iZ (a1))), (2, .ref (oL))] := hl
  refine pb_aload_n C dX0_left_0 rfl (lv_at hl 2 rfl) ?_
  refine pb_ic C dX0_left_1 ?_
  refine pb_aload_n C dX0_left_2 rfl (lv_at hl 0 rfl) ?_
  refine pb_iload_n C dX0_left_3 rfl (lv_at hl 1 rfl) ?_
  refine pb_catch (bc' := mc - mc) (bs' := ms - ms) C (pb_runVX (rest := [.int (iZ (0)), .ref (oL)]) C hG (hM) hBo (ci := 0) rfl (lw_V q1349 q1350 q1351 q51 q1352) ⟨rfl, hdX1_left⟩ rfl hl.1 rfl (Nat.le_of_ble_eq_true rfl) ⟨show dd + 1 ≤ 15 from by omega, show 8 + (2 + 11) + 64 * dd ≤ 64 * 15 from by omega⟩ dX0_left_4) (by omega) (by omega) [⟨0, 9, 12, 13⟩] ⟨0, 9, 15, 64⟩ [] hT (List.forall_mem_cons.mpr ⟨⟨by decide, "java/lang/IndexOutOfBoundsException", q241, hN ("java/util/NoSuchElementException", "java/lang/IndexOutOfBoundsException") (by decide)⟩, (fun z9 h9 => absurd h9 List.not_mem_nil)⟩) (by decide) (by decide) q1045 q572 fun q9 H1 hF1 => ?_
  refine pb_astore_n C dX0_left_15 rfl hl (by decide) rfl fun ls hl => ?_
  have hl : lv_has ls 4 [(3, .ref (q9)), (0, .ref (b)), (1, .int (iZ (a1))), (2, .ref (oL))] := hl
  refine pb_ic C dX0_left_16 ?_
  exact pb_iret C dX0_left_17 (⟨_, rfl, rfl, hF1⟩)

set_option maxHeartbeats 1000000 in
theorem met_X0_right {w : pb_W} (l : Launch) {H : Heap} (b oL : Nat) (fs : List Value) (hBo : pb_R w H b 0 fs) (a1 : Int) (dd mc ms : Nat) (post : Int → Heap → Prop) (g0 : Nat → Value) (hd : dd ≤ 14) (hM : pb_M w l yX1_right cX1_right 2 (some .int) dd mc ms [.ref b, .int (iZ a1)] H (pb_qi post)) (hk : ∀ z H1, post z H1 → pb_F (fun q => q < w.2.2.2) H H1 ∧ H1[oL]? = H[oL]? ∧ -2147483648 ≤ z ∧ z ≤ 2147483647) (hA : pb_A w H oL 2 1 g0) (hz : w.2.2.2 ≤ oL) : pb_MW w l yX0_right cX0_right 4 (some .int) [(0, 9, 12, 13), (0, 9, 15, 64)] 15 (mc) (ms) [.ref (b), .int (iZ (a1)), .ref (oL)] H (pb_qi (fun k H2 => k = 0 ∧ ∃ z H1 g, post z H1 ∧ pb_A w H2 oL 2 1 (updV g 0 (.long (lZ z))) ∧ pb_Up oL H1 H2)) := by
  refine pb_ofWH (by decide +kernel) (Nat.le_of_ble_eq_true rfl) ?_
  intro p_ e_ s_ m_ ar_ bl_ me_ co_ ls C hh hG hl hT hN
  have hl : lv_has ls 4 [(0, .ref (b)), (1, .int (iZ (a1))), (2, .ref (oL))] := hl
  refine pb_aload_n C dX0_right_0 rfl (lv_at hl 2 rfl) ?_
  refine pb_ic C dX0_right_1 ?_
  refine pb_aload_n C dX0_right_2 rfl (lv_at hl 0 rfl) ?_
  refine pb_iload_n C dX0_right_3 rfl (lv_at hl 1 rfl) ?_
  refine pb_go_i (bc' := mc - mc) (bs' := ms - ms) (pb_runV (rest := [.int (iZ (0)), .ref (oL)]) C hG (hM) hBo (ci := 0) rfl (lw_V q1365 q1366 q1367 q51 q1368) ⟨rfl, hdX1_right⟩ rfl hl.1 rfl (Nat.le_of_ble_eq_true rfl) ⟨show dd + 1 ≤ 15 from by omega, show 8 + (2 + 11) + 64 * dd ≤ 64 * 15 from by omega⟩ dX0_right_4) (by omega) (by omega) (fun z_ H1 hp_ => ?_)
  obtain ⟨hF1, ho1, hzr⟩ := hk _ _ hp_
  have hG := hG.kept hF1
  have hA := hA.kept ho1
  refine pb_i2l C dX0_right_7 (x := z_) (by omega) ?_
  refine pb_last C hA (i := 0) (by omega) (by omega) dX0_right_8 fun H1_ hu_ hA => ?_
  have hG := hG.kept (hu_.z (by omega))
  refine pb_goto C dX0_right_9 (tgt := 18) (by decide) ?_
  refine pb_ic C dX0_right_18 ?_
  exact pb_iret C dX0_right_19 (⟨_, rfl, rfl, _, _, _, hp_, hA, hu_⟩)

set_option maxHeartbeats 1000000 in
theorem mex_X0_right_1 {w : pb_W} (l : Launch) {H : Heap} (b oL : Nat) (fs : List Value) (hBo : pb_R w H b 0 fs) (a1 : Int) (dd mc ms : Nat) (hd : dd ≤ 14) (hM : pb_X w l yX1_right cX1_right 2 (some .int) dd mc ms [.ref b, .int (iZ a1)] H RJ9) : pb_MW w l yX0_right cX0_right 4 (some .int) [(0, 9, 12, 13), (0, 9, 15, 64)] 15 (mc) (ms) [.ref (b), .int (iZ (a1)), .ref (oL)] H (pb_qi (fun k H1 => k = 1 ∧ pb_F (fun _ => True) H H1)) := by
  refine pb_ofWH (by decide +kernel) (Nat.le_of_ble_eq_true rfl) ?_
  intro p_ e_ s_ m_ ar_ bl_ me_ co_ ls C hh hG hl hT hN
  have hl : lv_has ls 4 [(0, .ref (b)), (1, .int (iZ (a1))), (2, .ref (oL))] := hl
  refine pb_aload_n C dX0_right_0 rfl (lv_at hl 2 rfl) ?_
  refine pb_ic C dX0_right_1 ?_
  refine pb_aload_n C dX0_right_2 rfl (lv_at hl 0 rfl) ?_
  refine pb_iload_n C dX0_right_3 rfl (lv_at hl 1 rfl) ?_
  refine pb_catch (bc' := mc - mc) (bs' := ms - ms) C (pb_runVX (rest := [.int (iZ (0)), .ref (oL)]) C hG (hM) hBo (ci := 0) rfl (lw_V q1365 q1366 q1367 q51 q1368) ⟨rfl, hdX1_right⟩ rfl hl.1 rfl (Nat.le_of_ble_eq_true rfl) ⟨show dd + 1 ≤ 15 from by omega, show 8 + (2 + 11) + 64 * dd ≤ 64 * 15 from by omega⟩ dX0_right_4) (by omega) (by omega) [] ⟨0, 9, 12, 13⟩ [⟨0, 9, 15, 64⟩] hT (fun z9 h9 => absurd h9 List.not_mem_nil) (by decide) (by decide) q241 q337 fun q9 H1 hF1 => ?_
  refine pb_astore_n C dX0_right_12 rfl hl (by decide) rfl fun ls hl => ?_
  have hl : lv_has ls 4 [(3, .ref (q9)), (0, .ref (b)), (1, .int (iZ (a1))), (2, .ref (oL))] := hl
  refine pb_ic C dX0_right_13 ?_
  exact pb_iret C dX0_right_14 (⟨_, rfl, rfl, hF1⟩)

set_option maxHeartbeats 1000000 in
theorem mex_X0_right_2 {w : pb_W} (l : Launch) {H : Heap} (b oL : Nat) (fs : List Value) (hBo : pb_R w H b 0 fs) (a1 : Int) (dd mc ms : Nat) (hd : dd ≤ 14) (hM : pb_X w l yX1_right cX1_right 2 (some .int) dd mc ms [.ref b, .int (iZ a1)] H RJ16) : pb_MW w l yX0_right cX0_right 4 (some .int) [(0, 9, 12, 13), (0, 9, 15, 64)] 15 (mc) (ms) [.ref (b), .int (iZ (a1)), .ref (oL)] H (pb_qi (fun k H1 => k = 2 ∧ pb_F (fun _ => True) H H1)) := by
  refine pb_ofWH (by decide +kernel) (Nat.le_of_ble_eq_true rfl) ?_
  intro p_ e_ s_ m_ ar_ bl_ me_ co_ ls C hh hG hl hT hN
  have hl : lv_has ls 4 [(0, .ref (b)), (1, .int (iZ (a1))), (2, .ref (oL))] := hl
  refine pb_aload_n C dX0_right_0 rfl (lv_at hl 2 rfl) ?_
  refine pb_ic C dX0_right_1 ?_
  refine pb_aload_n C dX0_right_2 rfl (lv_at hl 0 rfl) ?_
  refine pb_iload_n C dX0_right_3 rfl (lv_at hl 1 rfl) ?_
  refine pb_catch (bc' := mc - mc) (bs' := ms - ms) C (pb_runVX (rest := [.int (iZ (0)), .ref (oL)]) C hG (hM) hBo (ci := 0) rfl (lw_V q1365 q1366 q1367 q51 q1368) ⟨rfl, hdX1_right⟩ rfl hl.1 rfl (Nat.le_of_ble_eq_true rfl) ⟨show dd + 1 ≤ 15 from by omega, show 8 + (2 + 11) + 64 * dd ≤ 64 * 15 from by omega⟩ dX0_right_4) (by omega) (by omega) [⟨0, 9, 12, 13⟩] ⟨0, 9, 15, 64⟩ [] hT (List.forall_mem_cons.mpr ⟨⟨by decide, "java/lang/IndexOutOfBoundsException", q241, hN ("java/util/NoSuchElementException", "java/lang/IndexOutOfBoundsException") (by decide)⟩, (fun z9 h9 => absurd h9 List.not_mem_nil)⟩) (by decide) (by decide) q1045 q572 fun q9 H1 hF1 => ?_
  refine pb_astore_n C dX0_right_15 rfl hl (by decide) rfl fun ls hl => ?_
  have hl : lv_has ls 4 [(3, .ref (q9)), (0, .ref (b)), (1, .int (iZ (a1))), (2, .ref (oL))] := hl
  refine pb_ic C dX0_right_16 ?_
  exact pb_iret C dX0_right_17 (⟨_, rfl, rfl, hF1⟩)

set_option maxHeartbeats 1000000 in
theorem met_X0_bottom {w : pb_W} (l : Launch) {H : Heap} (b oL : Nat) (fs : List Value) (hBo : pb_R w H b 0 fs) (a1 : Int) (dd mc ms : Nat) (post : Int → Heap → Prop) (g0 : Nat → Value) (hd : dd ≤ 14) (hM : pb_M w l yX1_bottom cX1_bottom 2 (some .int) dd mc ms [.ref b, .int (iZ a1)] H (pb_qi post)) (hk : ∀ z H1, post z H1 → pb_F (fun q => q < w.2.2.2) H H1 ∧ H1[oL]? = H[oL]? ∧ -2147483648 ≤ z ∧ z ≤ 2147483647) (hA : pb_A w H oL 2 1 g0) (hz : w.2.2.2 ≤ oL) : pb_MW w l yX0_bottom cX0_bottom 4 (some .int) [(0, 9, 12, 13), (0, 9, 15, 64)] 15 (mc) (ms) [.ref (b), .int (iZ (a1)), .ref (oL)] H (pb_qi (fun k H2 => k = 0 ∧ ∃ z H1 g, post z H1 ∧ pb_A w H2 oL 2 1 (updV g 0 (.long (lZ z))) ∧ pb_Up oL H1 H2)) := by
  refine pb_ofWH (by decide +kernel) (Nat.le_of_ble_eq_true rfl) ?_
  intro p_ e_ s_ m_ ar_ bl_ me_ co_ ls C hh hG hl hT hN
  have hl : lv_has ls 4 [(0, .ref (b)), (1, .int (iZ (a1))), (2, .ref (oL))] := hl
  refine pb_aload_n C dX0_bottom_0 rfl (lv_at hl 2 rfl) ?_
  refine pb_ic C dX0_bottom_1 ?_
  refine pb_aload_n C dX0_bottom_2 rfl (lv_at hl 0 rfl) ?_
  refine pb_iload_n C dX0_bottom_3 rfl (lv_at hl 1 rfl) ?_
  refine pb_go_i (bc' := mc - mc) (bs' := ms - ms) (pb_runV (rest := [.int (iZ (0)), .ref (oL)]) C hG (hM) hBo (ci := 0) rfl (lw_V q1377 q1378 q1379 q51 q1380) ⟨rfl, hdX1_bottom⟩ rfl hl.1 rfl (Nat.le_of_ble_eq_true rfl) ⟨show dd + 1 ≤ 15 from by omega, show 8 + (2 + 11) + 64 * dd ≤ 64 * 15 from by omega⟩ dX0_bottom_4) (by omega) (by omega) (fun z_ H1 hp_ => ?_)
  obtain ⟨hF1, ho1, hzr⟩ := hk _ _ hp_
  have hG := hG.kept hF1
  have hA := hA.kept ho1
  refine pb_i2l C dX0_bottom_7 (x := z_) (by omega) ?_
  refine pb_last C hA (i := 0) (by omega) (by omega) dX0_bottom_8 fun H1_ hu_ hA => ?_
  have hG := hG.kept (hu_.z (by omega))
  refine pb_goto C dX0_bottom_9 (tgt := 18) (by decide) ?_
  refine pb_ic C dX0_bottom_18 ?_
  exact pb_iret C dX0_bottom_19 (⟨_, rfl, rfl, _, _, _, hp_, hA, hu_⟩)

set_option maxHeartbeats 1000000 in
theorem mex_X0_bottom_1 {w : pb_W} (l : Launch) {H : Heap} (b oL : Nat) (fs : List Value) (hBo : pb_R w H b 0 fs) (a1 : Int) (dd mc ms : Nat) (hd : dd ≤ 14) (hM : pb_X w l yX1_bottom cX1_bottom 2 (some .int) dd mc ms [.ref b, .int (iZ a1)] H RJ9) : pb_MW w l yX0_bottom cX0_bottom 4 (some .int) [(0, 9, 12, 13), (0, 9, 15, 64)] 15 (mc) (ms) [.ref (b), .int (iZ (a1)), .ref (oL)] H (pb_qi (fun k H1 => k = 1 ∧ pb_F (fun _ => True) H H1)) := by
  refine pb_ofWH (by decide +kernel) (Nat.le_of_ble_eq_true rfl) ?_
  intro p_ e_ s_ m_ ar_ bl_ me_ co_ ls C hh hG hl hT hN
  have hl : lv_has ls 4 [(0, .ref (b)), (1, .int (iZ (a1))), (2, .ref (oL))] := hl
  refine pb_aload_n C dX0_bottom_0 rfl (lv_at hl 2 rfl) ?_
  refine pb_ic C dX0_bottom_1 ?_
  refine pb_aload_n C dX0_bottom_2 rfl (lv_at hl 0 rfl) ?_
  refine pb_iload_n C dX0_bottom_3 rfl (lv_at hl 1 rfl) ?_
  refine pb_catch (bc' := mc - mc) (bs' := ms - ms) C (pb_runVX (rest := [.int (iZ (0)), .ref (oL)]) C hG (hM) hBo (ci := 0) rfl (lw_V q1377 q1378 q1379 q51 q1380) ⟨rfl, hdX1_bottom⟩ rfl hl.1 rfl (Nat.le_of_ble_eq_true rfl) ⟨show dd + 1 ≤ 15 from by omega, show 8 + (2 + 11) + 64 * dd ≤ 64 * 15 from by omega⟩ dX0_bottom_4) (by omega) (by omega) [] ⟨0, 9, 12, 13⟩ [⟨0, 9, 15, 64⟩] hT (fun z9 h9 => absurd h9 List.not_mem_nil) (by decide) (by decide) q241 q337 fun q9 H1 hF1 => ?_
  refine pb_astore_n C dX0_bottom_12 rfl hl (by decide) rfl fun ls hl => ?_
  have hl : lv_has ls 4 [(3, .ref (q9)), (0, .ref (b)), (1, .int (iZ (a1))), (2, .ref (oL))] := hl
  refine pb_ic C dX0_bottom_13 ?_
  exact pb_iret C dX0_bottom_14 (⟨_, rfl, rfl, hF1⟩)

set_option maxHeartbeats 1000000 in
theorem mex_X0_bottom_2 {w : pb_W} (l : Launch) {H : Heap} (b oL : Nat) (fs : List Value) (hBo : pb_R w H b 0 fs) (a1 : Int) (dd mc ms : Nat) (hd : dd ≤ 14) (hM : pb_X w l yX1_bottom cX1_bottom 2 (some .int) dd mc ms [.ref b, .int (iZ a1)] H RJ16) : pb_MW w l yX0_bottom cX0_bottom 4 (some .int) [(0, 9, 12, 13), (0, 9, 15, 64)] 15 (mc) (ms) [.ref (b), .int (iZ (a1)), .ref (oL)] H (pb_qi (fun k H1 => k = 2 ∧ pb_F (fun _ => True) H H1)) := by
  refine pb_ofWH (by decide +kernel) (Nat.le_of_ble_eq_true rfl) ?_
  intro p_ e_ s_ m_ ar_ bl_ me_ co_ ls C hh hG hl hT hN
  have hl : lv_has ls 4 [(0, .ref (b)), (1, .int (iZ (a1))), (2, .ref (oL))] := hl
  refine pb_aload_n C dX0_bottom_0 rfl (lv_at hl 2 rfl) ?_
  refine pb_ic C dX0_bottom_1 ?_
  refine pb_aload_n C dX0_bottom_2 rfl (lv_at hl 0 rfl) ?_
  refine pb_iload_n C dX0_bottom_3 rfl (lv_at hl 1 rfl) ?_
  refine pb_catch (bc' := mc - mc) (bs' := ms - ms) C (pb_runVX (rest := [.int (iZ (0)), .ref (oL)]) C hG (hM) hBo (ci := 0) rfl (lw_V q1377 q1378 q1379 q51 q1380) ⟨rfl, hdX1_bottom⟩ rfl hl.1 rfl (Nat.le_of_ble_eq_true rfl) ⟨show dd + 1 ≤ 15 from by omega, show 8 + (2 + 11) + 64 * dd ≤ 64 * 15 from by omega⟩ dX0_bottom_4) (by omega) (by omega) [⟨0, 9, 12, 13⟩] ⟨0, 9, 15, 64⟩ [] hT (List.forall_mem_cons.mpr ⟨⟨by decide, "java/lang/IndexOutOfBoundsException", q241, hN ("java/util/NoSuchElementException", "java/lang/IndexOutOfBoundsException") (by decide)⟩, (fun z9 h9 => absurd h9 List.not_mem_nil)⟩) (by decide) (by decide) q1045 q572 fun q9 H1 hF1 => ?_
  refine pb_astore_n C dX0_bottom_15 rfl hl (by decide) rfl fun ls hl => ?_
  have hl : lv_has ls 4 [(3, .ref (q9)), (0, .ref (b)), (1, .int (iZ (a1))), (2, .ref (oL))] := hl
  refine pb_ic C dX0_bottom_16 ?_
  exact pb_iret C dX0_bottom_17 (⟨_, rfl, rfl, hF1⟩)

set_option maxHeartbeats 1000000 in
theorem met_X0_top {w : pb_W} (l : Launch) {H : Heap} (b oL : Nat) (fs : List Value) (hBo : pb_R w H b 0 fs) (a1 : Int) (dd mc ms : Nat) (post : Int → Heap → Prop) (g0 : Nat → Value) (hd : dd ≤ 14) (hM : pb_M w l yX1_top cX1_top 2 (some .int) dd mc ms [.ref b, .int (iZ a1)] H (pb_qi post)) (hk : ∀ z H1, post z H1 → pb_F (fun q => q < w.2.2.2) H H1 ∧ H1[oL]? = H[oL]? ∧ -2147483648 ≤ z ∧ z ≤ 2147483647) (hA : pb_A w H oL 2 1 g0) (hz : w.2.2.2 ≤ oL) : pb_MW w l yX0_top cX0_top 4 (some .int) [(0, 9, 12, 13), (0, 9, 15, 64)] 15 (mc) (ms) [.ref (b), .int (iZ (a1)), .ref (oL)] H (pb_qi (fun k H2 => k = 0 ∧ ∃ z H1 g, post z H1 ∧ pb_A w H2 oL 2 1 (updV g 0 (.long (lZ z))) ∧ pb_Up oL H1 H2)) := by
  refine pb_ofWH (by decide +kernel) (Nat.le_of_ble_eq_true rfl) ?_
  intro p_ e_ s_ m_ ar_ bl_ me_ co_ ls C hh hG hl hT hN
  have hl : lv_has ls 4 [(0, .ref (b)), (1, .int (iZ (a1))), (2, .ref (oL))] := hl
  refine pb_aload_n C dX0_top_0 rfl (lv_at hl 2 rfl) ?_
  refine pb_ic C dX0_top_1 ?_
  refine pb_aload_n C dX0_top_2 rfl (lv_at hl 0 rfl) ?_
  refine pb_iload_n C dX0_top_3 rfl (lv_at hl 1 rfl) ?_
  refine pb_go_i (bc' := mc - mc) (bs' := ms - ms) (pb_runV (rest := [.int (iZ (0)), .ref (oL)]) C hG (hM) hBo (ci := 0) rfl (lw_V q1388 q1389 q1390 q51 q1391) ⟨rfl, hdX1_top⟩ rfl hl.1 rfl (Nat.le_of_ble_eq_true rfl) ⟨show dd + 1 ≤ 15 from by omega, show 8 + (2 + 11) + 64 * dd ≤ 64 * 15 from by omega⟩ dX0_top_4) (by omega) (by omega) (fun z_ H1 hp_ => ?_)
  obtain ⟨hF1, ho1, hzr⟩ := hk _ _ hp_
  have hG := hG.kept hF1
  have hA := hA.kept ho1
  refine pb_i2l C dX0_top_7 (x := z_) (by omega) ?_
  refine pb_last C hA (i := 0) (by omega) (by omega) dX0_top_8 fun H1_ hu_ hA => ?_
  have hG := hG.kept (hu_.z (by omega))
  refine pb_goto C dX0_top_9 (tgt := 18) (by decide) ?_
  refine pb_ic C dX0_top_18 ?_
  exact pb_iret C dX0_top_19 (⟨_, rfl, rfl, _, _, _, hp_, hA, hu_⟩)

set_option maxHeartbeats 1000000 in
theorem mex_X0_top_1 {w : pb_W} (l : Launch) {H : Heap} (b oL : Nat) (fs : List Value) (hBo : pb_R w H b 0 fs) (a1 : Int) (dd mc ms : Nat) (hd : dd ≤ 14) (hM : pb_X w l yX1_top cX1_top 2 (some .int) dd mc ms [.ref b, .int (iZ a1)] H RJ9) : pb_MW w l yX0_top cX0_top 4 (some .int) [(0, 9, 12, 13), (0, 9, 15, 64)] 15 (mc) (ms) [.ref (b), .int (iZ (a1)), .ref (oL)] H (pb_qi (fun k H1 => k = 1 ∧ pb_F (fun _ => True) H H1)) := by
  refine pb_ofWH (by decide +kernel) (Nat.le_of_ble_eq_true rfl) ?_
  intro p_ e_ s_ m_ ar_ bl_ me_ co_ ls C hh hG hl hT hN
  have hl : lv_has ls 4 [(0, .ref (b)), (1, .int (iZ (a1))), (2, .ref (oL))] := hl
  refine pb_aload_n C dX0_top_0 rfl (lv_at hl 2 rfl) ?_
  refine pb_ic C dX0_top_1 ?_
  refine pb_aload_n C dX0_top_2 rfl (lv_at hl 0 rfl) ?_
  refine pb_iload_n C dX0_top_3 rfl (lv_at hl 1 rfl) ?_
  refine pb_catch (bc' := mc - mc) (bs' := ms - ms) C (pb_runVX (rest := [.int (iZ (0)), .ref (oL)]) C hG (hM) hBo (ci := 0) rfl (lw_V q1388 q1389 q1390 q51 q1391) ⟨rfl, hdX1_top⟩ rfl hl.1 rfl (Nat.le_of_ble_eq_true rfl) ⟨show dd + 1 ≤ 15 from by omega, show 8 + (2 + 11) + 64 * dd ≤ 64 * 15 from by omega⟩ dX0_top_4) (by omega) (by omega) [] ⟨0, 9, 12, 13⟩ [⟨0, 9, 15, 64⟩] hT (fun z9 h9 => absurd h9 List.not_mem_nil) (by decide) (by decide) q241 q337 fun q9 H1 hF1 => ?_
  refine pb_astore_n C dX0_top_12 rfl hl (by decide) rfl fun ls hl => ?_
  have hl : lv_has ls 4 [(3, .ref (q9)), (0, .ref (b)), (1, .int (iZ (a1))), (2, .ref (oL))] := hl
  refine pb_ic C dX0_top_13 ?_
  exact pb_iret C dX0_top_14 (⟨_, rfl, rfl, hF1⟩)

set_option maxHeartbeats 1000000 in
theorem mex_X0_top_2 {w : pb_W} (l : Launch) {H : Heap} (b oL : Nat) (fs : List Value) (hBo : pb_R w H b 0 fs) (a1 : Int) (dd mc ms : Nat) (hd : dd ≤ 14) (hM : pb_X w l yX1_top cX1_top 2 (some .int) dd mc ms [.ref b, .int (iZ a1)] H RJ16) : pb_MW w l yX0_top cX0_top 4 (some .int) [(0, 9, 12, 13), (0, 9, 15, 64)] 15 (mc) (ms) [.ref (b), .int (iZ (a1)), .ref (oL)] H (pb_qi (fun k H1 => k = 2 ∧ pb_F (fun _ => True) H H1)) := by
  refine pb_ofWH (by decide +kernel) (Nat.le_of_ble_eq_true rfl) ?_
  intro p_ e_ s_ m_ ar_ bl_ me_ co_ ls C hh hG hl hT hN
  have hl : lv_has ls 4 [(0, .ref (b)), (1, .int (iZ (a1))), (2, .ref (oL))] := hl
  refine pb_aload_n C dX0_top_0 rfl (lv_at hl 2 rfl) ?_
  refine pb_ic C dX0_top_1 ?_
  refine pb_aload_n C dX0_top_2 rfl (lv_at hl 0 rfl) ?_
  refine pb_iload_n C dX0_top_3 rfl (lv_at hl 1 rfl) ?_
  refine pb_catch (bc' := mc - mc) (bs' := ms - ms) C (pb_runVX (rest := [.int (iZ (0)), .ref (oL)]) C hG (hM) hBo (ci := 0) rfl (lw_V q1388 q1389 q1390 q51 q1391) ⟨rfl, hdX1_top⟩ rfl hl.1 rfl (Nat.le_of_ble_eq_true rfl) ⟨show dd + 1 ≤ 15 from by omega, show 8 + (2 + 11) + 64 * dd ≤ 64 * 15 from by omega⟩ dX0_top_4) (by omega) (by omega) [⟨0, 9, 12, 13⟩] ⟨0, 9, 15, 64⟩ [] hT (List.forall_mem_cons.mpr ⟨⟨by decide, "java/lang/IndexOutOfBoundsException", q241, hN ("java/util/NoSuchElementException", "java/lang/IndexOutOfBoundsException") (by decide)⟩, (fun z9 h9 => absurd h9 List.not_mem_nil)⟩) (by decide) (by decide) q1045 q572 fun q9 H1 hF1 => ?_
  refine pb_astore_n C dX0_top_15 rfl hl (by decide) rfl fun ls hl => ?_
  have hl : lv_has ls 4 [(3, .ref (q9)), (0, .ref (b)), (1, .int (iZ (a1))), (2, .ref (oL))] := hl
  refine pb_ic C dX0_top_16 ?_
  exact pb_iret C dX0_top_17 (⟨_, rfl, rfl, hF1⟩)

set_option maxHeartbeats 1000000 in
theorem met_X0_largestRectangle {w : pb_W} (l : Launch) {H : Heap} (b oL : Nat) (fs : List Value) (hBo : pb_R w H b 0 fs) (a1 : Int) (dd mc ms : Nat) (post : Int → Heap → Prop) (g0 : Nat → Value) (hd : dd ≤ 14) (hM : pb_M w l yX1_largestRectangle cX1_largestRectangle 2 (some .int) dd mc ms [.ref b, .int (iZ a1)] H (pb_qi post)) (hk : ∀ z H1, post z H1 → pb_F (fun q => q < w.2.2.2) H H1 ∧ H1[oL]? = H[oL]? ∧ -2147483648 ≤ z ∧ z ≤ 2147483647) (hA : pb_A w H oL 2 1 g0) (hz : w.2.2.2 ≤ oL) : pb_MW w l yX0_largestRectangle cX0_largestRectangle 4 (some .int) [(0, 9, 12, 13)] 15 (mc) (ms) [.ref (b), .int (iZ (a1)), .ref (oL)] H (pb_qi (fun k H2 => k = 0 ∧ ∃ z H1 g, post z H1 ∧ pb_A w H2 oL 2 1 (updV g 0 (.long (lZ z))) ∧ pb_Up oL H1 H2)) := by
  refine pb_ofWH (by decide +kernel) (Nat.le_of_ble_eq_true rfl) ?_
  intro p_ e_ s_ m_ ar_ bl_ me_ co_ ls C hh hG hl hT hN
  have hl : lv_has ls 4 [(0, .ref (b)), (1, .int (iZ (a1))), (2, .ref (oL))] := hl
  refine pb_aload_n C dX0_largestRectangle_0 rfl (lv_at hl 2 rfl) ?_
  refine pb_ic C dX0_largestRectangle_1 ?_
  refine pb_aload_n C dX0_largestRectangle_2 rfl (lv_at hl 0 rfl) ?_
  refine pb_iload_n C dX0_largestRectangle_3 rfl (lv_at hl 1 rfl) ?_
  refine pb_go_i (bc' := mc - mc) (bs' := ms - ms) (pb_runV (rest := [.int (iZ (0)), .ref (oL)]) C hG (hM) hBo (ci := 0) rfl (lw_V q1396 q1397 q1398 q51 q1399) ⟨rfl, hdX1_largestRectangle⟩ rfl hl.1 rfl (Nat.le_of_ble_eq_true rfl) ⟨show dd + 1 ≤ 15 from by omega, show 8 + (2 + 11) + 64 * dd ≤ 64 * 15 from by omega⟩ dX0_largestRectangle_4) (by omega) (by omega) (fun z_ H1 hp_ => ?_)
  obtain ⟨hF1, ho1, hzr⟩ := hk _ _ hp_
  have hG := hG.kept hF1
  have hA := hA.kept ho1
  refine pb_i2l C dX0_largestRectangle_7 (x := z_) (by omega) ?_
  refine pb_last C hA (i := 0) (by omega) (by omega) dX0_largestRectangle_8 fun H1_ hu_ hA => ?_
  have hG := hG.kept (hu_.z (by omega))
  refine pb_goto C dX0_largestRectangle_9 (tgt := 15) (by decide) ?_
  refine pb_ic C dX0_largestRectangle_15 ?_
  exact pb_iret C dX0_largestRectangle_16 (⟨_, rfl, rfl, _, _, _, hp_, hA, hu_⟩)

set_option maxHeartbeats 1000000 in
theorem mex_X0_largestRectangle_1 {w : pb_W} (l : Launch) {H : Heap} (b oL : Nat) (fs : List Value) (hBo : pb_R w H b 0 fs) (a1 : Int) (dd mc ms : Nat) (hd : dd ≤ 14) (hM : pb_X w l yX1_largestRectangle cX1_largestRectangle 2 (some .int) dd mc ms [.ref b, .int (iZ a1)] H RJ9) : pb_MW w l yX0_largestRectangle cX0_largestRectangle 4 (some .int) [(0, 9, 12, 13)] 15 (mc) (ms) [.ref (b), .int (iZ (a1)), .ref (oL)] H (pb_qi (fun k H1 => k = 1 ∧ pb_F (fun _ => True) H H1)) := by
  refine pb_ofWH (by decide +kernel) (Nat.le_of_ble_eq_true rfl) ?_
  intro p_ e_ s_ m_ ar_ bl_ me_ co_ ls C hh hG hl hT hN
  have hl : lv_has ls 4 [(0, .ref (b)), (1, .int (iZ (a1))), (2, .ref (oL))] := hl
  refine pb_aload_n C dX0_largestRectangle_0 rfl (lv_at hl 2 rfl) ?_
  refine pb_ic C dX0_largestRectangle_1 ?_
  refine pb_aload_n C dX0_largestRectangle_2 rfl (lv_at hl 0 rfl) ?_
  refine pb_iload_n C dX0_largestRectangle_3 rfl (lv_at hl 1 rfl) ?_
  refine pb_catch (bc' := mc - mc) (bs' := ms - ms) C (pb_runVX (rest := [.int (iZ (0)), .ref (oL)]) C hG (hM) hBo (ci := 0) rfl (lw_V q1396 q1397 q1398 q51 q1399) ⟨rfl, hdX1_largestRectangle⟩ rfl hl.1 rfl (Nat.le_of_ble_eq_true rfl) ⟨show dd + 1 ≤ 15 from by omega, show 8 + (2 + 11) + 64 * dd ≤ 64 * 15 from by omega⟩ dX0_largestRectangle_4) (by omega) (by omega) [] ⟨0, 9, 12, 13⟩ [] hT (fun z9 h9 => absurd h9 List.not_mem_nil) (by decide) (by decide) q241 q337 fun q9 H1 hF1 => ?_
  refine pb_astore_n C dX0_largestRectangle_12 rfl hl (by decide) rfl fun ls hl => ?_
  have hl : lv_has ls 4 [(3, .ref (q9)), (0, .ref (b)), (1, .int (iZ (a1))), (2, .ref (oL))] := hl
  refine pb_ic C dX0_largestRectangle_13 ?_
  exact pb_iret C dX0_largestRectangle_14 (⟨_, rfl, rfl, hF1⟩)

set_option maxHeartbeats 1000000 in
theorem met_X0_largestRectangleByCells {w : pb_W} (l : Launch) {H : Heap} (b oL : Nat) (fs : List Value) (hBo : pb_R w H b 0 fs) (a1 : Int) (dd mc ms : Nat) (post : Int → Heap → Prop) (g0 : Nat → Value) (hd : dd ≤ 14) (hM : pb_M w l yX1_largestRectangleByCells cX1_largestRectangleByCells 2 (some .int) dd mc ms [.ref b, .int (iZ a1)] H (pb_qi post)) (hk : ∀ z H1, post z H1 → pb_F (fun q => q < w.2.2.2) H H1 ∧ H1[oL]? = H[oL]? ∧ -2147483648 ≤ z ∧ z ≤ 2147483647) (hA : pb_A w H oL 2 1 g0) (hz : w.2.2.2 ≤ oL) : pb_MW w l yX0_largestRectangleByCells cX0_largestRectangleByCells 4 (some .int) [(0, 9, 12, 13)] 15 (mc) (ms) [.ref (b), .int (iZ (a1)), .ref (oL)] H (pb_qi (fun k H2 => k = 0 ∧ ∃ z H1 g, post z H1 ∧ pb_A w H2 oL 2 1 (updV g 0 (.long (lZ z))) ∧ pb_Up oL H1 H2)) := by
  refine pb_ofWH (by decide +kernel) (Nat.le_of_ble_eq_true rfl) ?_
  intro p_ e_ s_ m_ ar_ bl_ me_ co_ ls C hh hG hl hT hN
  have hl : lv_has ls 4 [(0, .ref (b)), (1, .int (iZ (a1))), (2, .ref (oL))] := hl
  refine pb_aload_n C dX0_largestRectangleByCells_0 rfl (lv_at hl 2 rfl) ?_
  refine pb_ic C dX0_largestRectangleByCells_1 ?_
  refine pb_aload_n C dX0_largestRectangleByCells_2 rfl (lv_at hl 0 rfl) ?_
  refine pb_iload_n C dX0_largestRectangleByCells_3 rfl (lv_at hl 1 rfl) ?_
  refine pb_go_i (bc' := mc - mc) (bs' := ms - ms) (pb_runV (rest := [.int (iZ (0)), .ref (oL)]) C hG (hM) hBo (ci := 0) rfl (lw_V q1438 q1439 q1440 q51 q1441) ⟨rfl, hdX1_largestRectangleByCells⟩ rfl hl.1 rfl (Nat.le_of_ble_eq_true rfl) ⟨show dd + 1 ≤ 15 from by omega, show 8 + (2 + 11) + 64 * dd ≤ 64 * 15 from by omega⟩ dX0_largestRectangleByCells_4) (by omega) (by omega) (fun z_ H1 hp_ => ?_)
  obtain ⟨hF1, ho1, hzr⟩ := hk _ _ hp_
  have hG := hG.kept hF1
  have hA := hA.kept ho1
  refine pb_i2l C dX0_largestRectangleByCells_7 (x := z_) (by omega) ?_
  refine pb_last C hA (i := 0) (by omega) (by omega) dX0_largestRectangleByCells_8 fun H1_ hu_ hA => ?_
  have hG := hG.kept (hu_.z (by omega))
  refine pb_goto C dX0_largestRectangleByCells_9 (tgt := 15) (by decide) ?_
  refine pb_ic C dX0_largestRectangleByCells_15 ?_
  exact pb_iret C dX0_largestRectangleByCells_16 (⟨_, rfl, rfl, _, _, _, hp_, hA, hu_⟩)

set_option maxHeartbeats 1000000 in
theorem mex_X0_largestRectangleByCells_1 {w : pb_W} (l : Launch) {H : Heap} (b oL : Nat) (fs : List Value) (hBo : pb_R w H b 0 fs) (a1 : Int) (dd mc ms : Nat) (hd : dd ≤ 14) (hM : pb_X w l yX1_largestRectangleByCells cX1_largestRectangleByCells 2 (some .int) dd mc ms [.ref b, .int (iZ a1)] H RJ9) : pb_MW w l yX0_largestRectangleByCells cX0_largestRectangleByCells 4 (some .int) [(0, 9, 12, 13)] 15 (mc) (ms) [.ref (b), .int (iZ (a1)), .ref (oL)] H (pb_qi (fun k H1 => k = 1 ∧ pb_F (fun _ => True) H H1)) := by
  refine pb_ofWH (by decide +kernel) (Nat.le_of_ble_eq_true rfl) ?_
  intro p_ e_ s_ m_ ar_ bl_ me_ co_ ls C hh hG hl hT hN
  have hl : lv_has ls 4 [(0, .ref (b)), (1, .int (iZ (a1))), (2, .ref (oL))] := hl
  refine pb_aload_n C dX0_largestRectangleByCells_0 rfl (lv_at hl 2 rfl) ?_
  refine pb_ic C dX0_largestRectangleByCells_1 ?_
  refine pb_aload_n C dX0_largestRectangleByCells_2 rfl (lv_at hl 0 rfl) ?_
  refine pb_iload_n C dX0_largestRectangleByCells_3 rfl (lv_at hl 1 rfl) ?_
  refine pb_catch (bc' := mc - mc) (bs' := ms - ms) C (pb_runVX (rest := [.int (iZ (0)), .ref (oL)]) C hG (hM) hBo (ci := 0) rfl (lw_V q1438 q1439 q1440 q51 q1441) ⟨rfl, hdX1_largestRectangleByCells⟩ rfl hl.1 rfl (Nat.le_of_ble_eq_true rfl) ⟨show dd + 1 ≤ 15 from by omega, show 8 + (2 + 11) + 64 * dd ≤ 64 * 15 from by omega⟩ dX0_largestRectangleByCells_4) (by omega) (by omega) [] ⟨0, 9, 12, 13⟩ [] hT (fun z9 h9 => absurd h9 List.not_mem_nil) (by decide) (by decide) q241 q337 fun q9 H1 hF1 => ?_
  refine pb_astore_n C dX0_largestRectangleByCells_12 rfl hl (by decide) rfl fun ls hl => ?_
  have hl : lv_has ls 4 [(3, .ref (q9)), (0, .ref (b)), (1, .int (iZ (a1))), (2, .ref (oL))] := hl
  refine pb_ic C dX0_largestRectangleByCells_13 ?_
  exact pb_iret C dX0_largestRectangleByCells_14 (⟨_, rfl, rfl, hF1⟩)

set_option maxHeartbeats 1000000 in
theorem met_X0_largestSquare {w : pb_W} (l : Launch) {H : Heap} (b oL : Nat) (fs : List Value) (hBo : pb_R w H b 0 fs) (a1 : Int) (dd mc ms : Nat) (post : Int → Heap → Prop) (g0 : Nat → Value) (hd : dd ≤ 14) (hM : pb_M w l yX1_largestSquare cX1_largestSquare 2 (some .int) dd mc ms [.ref b, .int (iZ a1)] H (pb_qi post)) (hk : ∀ z H1, post z H1 → pb_F (fun q => q < w.2.2.2) H H1 ∧ H1[oL]? = H[oL]? ∧ -2147483648 ≤ z ∧ z ≤ 2147483647) (hA : pb_A w H oL 2 1 g0) (hz : w.2.2.2 ≤ oL) : pb_MW w l yX0_largestSquare cX0_largestSquare 4 (some .int) [(0, 9, 12, 13)] 15 (mc) (ms) [.ref (b), .int (iZ (a1)), .ref (oL)] H (pb_qi (fun k H2 => k = 0 ∧ ∃ z H1 g, post z H1 ∧ pb_A w H2 oL 2 1 (updV g 0 (.long (lZ z))) ∧ pb_Up oL H1 H2)) := by
  refine pb_ofWH (by decide +kernel) (Nat.le_of_ble_eq_true rfl) ?_
  intro p_ e_ s_ m_ ar_ bl_ me_ co_ ls C hh hG hl hT hN
  have hl : lv_has ls 4 [(0, .ref (b)), (1, .int (iZ (a1))), (2, .ref (oL))] := hl
  refine pb_aload_n C dX0_largestSquare_0 rfl (lv_at hl 2 rfl) ?_
  refine pb_ic C dX0_largestSquare_1 ?_
  refine pb_aload_n C dX0_largestSquare_2 rfl (lv_at hl 0 rfl) ?_
  refine pb_iload_n C dX0_largestSquare_3 rfl (lv_at hl 1 rfl) ?_
  refine pb_go_i (bc' := mc - mc) (bs' := ms - ms) (pb_runV (rest := [.int (iZ (0)), .ref (oL)]) C hG (hM) hBo (ci := 0) rfl (lw_V q1525 q1526 q1527 q51 q1528) ⟨rfl, hdX1_largestSquare⟩ rfl hl.1 rfl (Nat.le_of_ble_eq_true rfl) ⟨show dd + 1 ≤ 15 from by omega, show 8 + (2 + 11) + 64 * dd ≤ 64 * 15 from by omega⟩ dX0_largestSquare_4) (by omega) (by omega) (fun z_ H1 hp_ => ?_)
  obtain ⟨hF1, ho1, hzr⟩ := hk _ _ hp_
  have hG := hG.kept hF1
  have hA := hA.kept ho1
  refine pb_i2l C dX0_largestSquare_7 (x := z_) (by omega) ?_
  refine pb_last C hA (i := 0) (by omega) (by omega) dX0_largestSquare_8 fun H1_ hu_ hA => ?_
  have hG := hG.kept (hu_.z (by omega))
  refine pb_goto C dX0_largestSquare_9 (tgt := 15) (by decide) ?_
  refine pb_ic C dX0_largestSquare_15 ?_
  exact pb_iret C dX0_largestSquare_16 (⟨_, rfl, rfl, _, _, _, hp_, hA, hu_⟩)

set_option maxHeartbeats 1000000 in
theorem mex_X0_largestSquare_1 {w : pb_W} (l : Launch) {H : Heap} (b oL : Nat) (fs : List Value) (hBo : pb_R w H b 0 fs) (a1 : Int) (dd mc ms : Nat) (hd : dd ≤ 14) (hM : pb_X w l yX1_largestSquare cX1_largestSquare 2 (some .int) dd mc ms [.ref b, .int (iZ a1)] H RJ9) : pb_MW w l yX0_largestSquare cX0_largestSquare 4 (some .int) [(0, 9, 12, 13)] 15 (mc) (ms) [.ref (b), .int (iZ (a1)), .ref (oL)] H (pb_qi (fun k H1 => k = 1 ∧ pb_F (fun _ => True) H H1)) := by
  refine pb_ofWH (by decide +kernel) (Nat.le_of_ble_eq_true rfl) ?_
  intro p_ e_ s_ m_ ar_ bl_ me_ co_ ls C hh hG hl hT hN
  have hl : lv_has ls 4 [(0, .ref (b)), (1, .int (iZ (a1))), (2, .ref (oL))] := hl
  refine pb_aload_n C dX0_largestSquare_0 rfl (lv_at hl 2 rfl) ?_
  refine pb_ic C dX0_largestSquare_1 ?_
  refine pb_aload_n C dX0_largestSquare_2 rfl (lv_at hl 0 rfl) ?_
  refine pb_iload_n C dX0_largestSquare_3 rfl (lv_at hl 1 rfl) ?_
  refine pb_catch (bc' := mc - mc) (bs' := ms - ms) C (pb_runVX (rest := [.int (iZ (0)), .ref (oL)]) C hG (hM) hBo (ci := 0) rfl (lw_V q1525 q1526 q1527 q51 q1528) ⟨rfl, hdX1_largestSquare⟩ rfl hl.1 rfl (Nat.le_of_ble_eq_true rfl) ⟨show dd + 1 ≤ 15 from by omega, show 8 + (2 + 11) + 64 * dd ≤ 64 * 15 from by omega⟩ dX0_largestSquare_4) (by omega) (by omega) [] ⟨0, 9, 12, 13⟩ [] hT (fun z9 h9 => absurd h9 List.not_mem_nil) (by decide) (by decide) q241 q337 fun q9 H1 hF1 => ?_
  refine pb_astore_n C dX0_largestSquare_12 rfl hl (by decide) rfl fun ls hl => ?_
  have hl : lv_has ls 4 [(3, .ref (q9)), (0, .ref (b)), (1, .int (iZ (a1))), (2, .ref (oL))] := hl
  refine pb_ic C dX0_largestSquare_13 ?_
  exact pb_iret C dX0_largestSquare_14 (⟨_, rfl, rfl, hF1⟩)

set_option maxHeartbeats 1000000 in
theorem met_X0_largestSquareByCells {w : pb_W} (l : Launch) {H : Heap} (b oL : Nat) (fs : List Value) (hBo : pb_R w H b 0 fs) (a1 : Int) (dd mc ms : Nat) (post : Int → Heap → Prop) (g0 : Nat → Value) (hd : dd ≤ 14) (hM : pb_M w l yX1_largestSquareByCells cX1_largestSquareByCells 2 (some .int) dd mc ms [.ref b, .int (iZ a1)] H (pb_qi post)) (hk : ∀ z H1, post z H1 → pb_F (fun q => q < w.2.2.2) H H1 ∧ H1[oL]? = H[oL]? ∧ -2147483648 ≤ z ∧ z ≤ 2147483647) (hA : pb_A w H oL 2 1 g0) (hz : w.2.2.2 ≤ oL) : pb_MW w l yX0_largestSquareByCells cX0_largestSquareByCells 4 (some .int) [(0, 9, 12, 13)] 15 (mc) (ms) [.ref (b), .int (iZ (a1)), .ref (oL)] H (pb_qi (fun k H2 => k = 0 ∧ ∃ z H1 g, post z H1 ∧ pb_A w H2 oL 2 1 (updV g 0 (.long (lZ z))) ∧ pb_Up oL H1 H2)) := by
  refine pb_ofWH (by decide +kernel) (Nat.le_of_ble_eq_true rfl) ?_
  intro p_ e_ s_ m_ ar_ bl_ me_ co_ ls C hh hG hl hT hN
  have hl : lv_has ls 4 [(0, .ref (b)), (1, .int (iZ (a1))), (2, .ref (oL))] := hl
  refine pb_aload_n C dX0_largestSquareByCells_0 rfl (lv_at hl 2 rfl) ?_
  refine pb_ic C dX0_largestSquareByCells_1 ?_
  refine pb_aload_n C dX0_largestSquareByCells_2 rfl (lv_at hl 0 rfl) ?_
  refine pb_iload_n C dX0_largestSquareByCells_3 rfl (lv_at hl 1 rfl) ?_
  refine pb_go_i (bc' := mc - mc) (bs' := ms - ms) (pb_runV (rest := [.int (iZ (0)), .ref (oL)]) C hG (hM) hBo (ci := 0) rfl (lw_V q1532 q1533 q1534 q51 q1535) ⟨rfl, hdX1_largestSquareByCells⟩ rfl hl.1 rfl (Nat.le_of_ble_eq_true rfl) ⟨show dd + 1 ≤ 15 from by omega, show 8 + (2 + 11) + 64 * dd ≤ 64 * 15 from by omega⟩ dX0_largestSquareByCells_4) (by omega) (by omega) (fun z_ H1 hp_ => ?_)
  obtain ⟨hF1, ho1, hzr⟩ := hk _ _ hp_
  have hG := hG.kept hF1
  have hA := hA.kept ho1
  refine pb_i2l C dX0_largestSquareByCells_7 (x := z_) (by omega) ?_
  refine pb_last C hA (i := 0) (by omega) (by omega) dX0_largestSquareByCells_8 fun H1_ hu_ hA => ?_
  have hG := hG.kept (hu_.z (by omega))
  refine pb_goto C dX0_largestSquareByCells_9 (tgt := 15) (by decide) ?_
  refine pb_ic C dX0_largestSquareByCells_15 ?_
  exact pb_iret C dX0_largestSquareByCells_16 (⟨_, rfl, rfl, _, _, _, hp_, hA, hu_⟩)

set_option maxHeartbeats 1000000 in
theorem mex_X0_largestSquareByCells_1 {w : pb_W} (l : Launch) {H : Heap} (b oL : Nat) (fs : List Value) (hBo : pb_R w H b 0 fs) (a1 : Int) (dd mc ms : Nat) (hd : dd ≤ 14) (hM : pb_X w l yX1_largestSquareByCells cX1_largestSquareByCells 2 (some .int) dd mc ms [.ref b, .int (iZ a1)] H RJ9) : pb_MW w l yX0_largestSquareByCells cX0_largestSquareByCells 4 (some .int) [(0, 9, 12, 13)] 15 (mc) (ms) [.ref (b), .int (iZ (a1)), .ref (oL)] H (pb_qi (fun k H1 => k = 1 ∧ pb_F (fun _ => True) H H1)) := by
  refine pb_ofWH (by decide +kernel) (Nat.le_of_ble_eq_true rfl) ?_
  intro p_ e_ s_ m_ ar_ bl_ me_ co_ ls C hh hG hl hT hN
  have hl : lv_has ls 4 [(0, .ref (b)), (1, .int (iZ (a1))), (2, .ref (oL))] := hl
  refine pb_aload_n C dX0_largestSquareByCells_0 rfl (lv_at hl 2 rfl) ?_
  refine pb_ic C dX0_largestSquareByCells_1 ?_
  refine pb_aload_n C dX0_largestSquareByCells_2 rfl (lv_at hl 0 rfl) ?_
  refine pb_iload_n C dX0_largestSquareByCells_3 rfl (lv_at hl 1 rfl) ?_
  refine pb_catch (bc' := mc - mc) (bs' := ms - ms) C (pb_runVX (rest := [.int (iZ (0)), .ref (oL)]) C hG (hM) hBo (ci := 0) rfl (lw_V q1532 q1533 q1534 q51 q1535) ⟨rfl, hdX1_largestSquareByCells⟩ rfl hl.1 rfl (Nat.le_of_ble_eq_true rfl) ⟨show dd + 1 ≤ 15 from by omega, show 8 + (2 + 11) + 64 * dd ≤ 64 * 15 from by omega⟩ dX0_largestSquareByCells_4) (by omega) (by omega) [] ⟨0, 9, 12, 13⟩ [] hT (fun z9 h9 => absurd h9 List.not_mem_nil) (by decide) (by decide) q241 q337 fun q9 H1 hF1 => ?_
  refine pb_astore_n C dX0_largestSquareByCells_12 rfl hl (by decide) rfl fun ls hl => ?_
  have hl : lv_has ls 4 [(3, .ref (q9)), (0, .ref (b)), (1, .int (iZ (a1))), (2, .ref (oL))] := hl
  refine pb_ic C dX0_largestSquareByCells_13 ?_
  exact pb_iret C dX0_largestSquareByCells_14 (⟨_, rfl, rfl, hF1⟩)

set_option maxHeartbeats 1000000 in
theorem met_X0_steps {w : pb_W} (l : Launch) {H : Heap} (b oL : Nat) (fs : List Value) (hBo : pb_R w H b 0 fs) (a1 : Int) (a2 : Int) (a3 : Int) (a4 : Int) (a5 : Int) (dd mc ms : Nat) (post : Int → Heap → Prop) (g0 : Nat → Value) (hd : dd ≤ 14) (hM : pb_M w l yX1_steps cX1_steps 7 (some .int) dd mc ms [.ref b, .int (iZ a1), .int (iZ a2), .int (iZ a3), .int (iZ a4), .int (iZ a5)] H (pb_qi post)) (hk : ∀ z H1, post z H1 → pb_F (fun q => q < w.2.2.2) H H1 ∧ H1[oL]? = H[oL]? ∧ -2147483648 ≤ z ∧ z ≤ 2147483647) (hA : pb_A w H oL 2 1 g0) (hz : w.2.2.2 ≤ oL) : pb_MW w l yX0_steps cX0_steps 8 (some .int) [(0, 16, 19, 13), (0, 16, 23, 15), (0, 16, 27, 64)] 15 (mc) (ms) [.ref (b), .int (iZ (a1)), .int (iZ (a2)), .int (iZ (a3)), .int (iZ (a4)), .int (iZ (a5)), .ref (oL)] H (pb_qi (fun k H2 => k = 0 ∧ ∃ z H1 g, post z H1 ∧ pb_A w H2 oL 2 1 (updV g 0 (.long (lZ z))) ∧ pb_Up oL H1 H2)) := by
  refine pb_ofWH (by decide +kernel) (Nat.le_of_ble_eq_true rfl) ?_
  intro p_ e_ s_ m_ ar_ bl_ me_ co_ ls C hh hG hl hT hN
  have hl : lv_has ls 8 [(0, .ref (b)), (1, .int (iZ (a1))), (2, .int (iZ (a2))), (3, .int (iZ (a3))), (4, .int (iZ (a4))), (5, .int (iZ (a5))), (6, .ref (oL))] := hl
  refine pb_aload C dX0_steps_0 (lv_at hl 6 rfl) ?_
  refine pb_ic C dX0_steps_2 ?_
  refine pb_aload_n C dX0_steps_3 rfl (lv_at hl 0 rfl) ?_
  refine pb_iload_n C dX0_steps_4 rfl (lv_at hl 1 rfl) ?_
  refine pb_iload_n C dX0_steps_5 rfl (lv_at hl 2 rfl) ?_
  refine pb_iload_n C dX0_steps_6 rfl (lv_at hl 3 rfl) ?_
  refine pb_iload C dX0_steps_7 (lv_at hl 4 rfl) ?_
  refine pb_iload C dX0_steps_9 (lv_at hl 5 rfl) ?_
  refine pb_go_i (bc' := mc - mc) (bs' := ms - ms) (pb_runV (rest := [.int (iZ (0)), .ref (oL)]) C hG (hM) hBo (ci := 0) rfl (lw_V q1544 q1545 q1546 q51 q1547) ⟨rfl, hdX1_steps⟩ rfl hl.1 rfl (Nat.le_of_ble_eq_true rfl) ⟨show dd + 1 ≤ 15 from by omega, show 8 + (7 + 11) + 64 * dd ≤ 64 * 15 from by omega⟩ dX0_steps_11) (by omega) (by omega) (fun z_ H1 hp_ => ?_)
  obtain ⟨hF1, ho1, hzr⟩ := hk _ _ hp_
  have hG := hG.kept hF1
  have hA := hA.kept ho1
  refine pb_i2l C dX0_steps_14 (x := z_) (by omega) ?_
  refine pb_last C hA (i := 0) (by omega) (by omega) dX0_steps_15 fun H1_ hu_ hA => ?_
  have hG := hG.kept (hu_.z (by omega))
  refine pb_goto C dX0_steps_16 (tgt := 31) (by decide) ?_
  refine pb_ic C dX0_steps_31 ?_
  exact pb_iret C dX0_steps_32 (⟨_, rfl, rfl, _, _, _, hp_, hA, hu_⟩)

set_option maxHeartbeats 1000000 in
theorem mex_X0_steps_1 {w : pb_W} (l : Launch) {H : Heap} (b oL : Nat) (fs : List Value) (hBo : pb_R w H b 0 fs) (a1 : Int) (a2 : Int) (a3 : Int) (a4 : Int) (a5 : Int) (dd mc ms : Nat) (hd : dd ≤ 14) (hM : pb_X w l yX1_steps cX1_steps 7 (some .int) dd mc ms [.ref b, .int (iZ a1), .int (iZ a2), .int (iZ a3), .int (iZ a4), .int (iZ a5)] H RJ9) : pb_MW w l yX0_steps cX0_steps 8 (some .int) [(0, 16, 19, 13), (0, 16, 23, 15), (0, 16, 27, 64)] 15 (mc) (ms) [.ref (b), .int (iZ (a1)), .int (iZ (a2)), .int (iZ (a3)), .int (iZ (a4)), .int (iZ (a5)), .ref (oL)] H (pb_qi (fun k H1 => k = 1 ∧ pb_F (fun _ => True) H H1)) := by
  refine pb_ofWH (by decide +kernel) (Nat.le_of_ble_eq_true rfl) ?_
  intro p_ e_ s_ m_ ar_ bl_ me_ co_ ls C hh hG hl hT hN
  have hl : lv_has ls 8 [(0, .ref (b)), (1, .int (iZ (a1))), (2, .int (iZ (a2))), (3, .int (iZ (a3))), (4, .int (iZ (a4))), (5, .int (iZ (a5))), (6, .ref (oL))] := hl
  refine pb_aload C dX0_steps_0 (lv_at hl 6 rfl) ?_
  refine pb_ic C dX0_steps_2 ?_
  refine pb_aload_n C dX0_steps_3 rfl (lv_at hl 0 rfl) ?_
  refine pb_iload_n C dX0_steps_4 rfl (lv_at hl 1 rfl) ?_
  refine pb_iload_n C dX0_steps_5 rfl (lv_at hl 2 rfl) ?_
  refine pb_iload_n C dX0_steps_6 rfl (lv_at hl 3 rfl) ?_
  refine pb_iload C dX0_steps_7 (lv_at hl 4 rfl) ?_
  refine pb_iload C dX0_steps_9 (lv_at hl 5 rfl) ?_
  refine pb_catch (bc' := mc - mc) (bs' := ms - ms) C (pb_runVX (rest := [.int (iZ (0)), .ref (oL)]) C hG (hM) hBo (ci := 0) rfl (lw_V q1544 q1545 q1546 q51 q1547) ⟨rfl, hdX1_steps⟩ rfl hl.1 rfl (Nat.le_of_ble_eq_true rfl) ⟨show dd + 1 ≤ 15 from by omega, show 8 + (7 + 11) + 64 * dd ≤ 64 * 15 from by omega⟩ dX0_steps_11) (by omega) (by omega) [] ⟨0, 16, 19, 13⟩ [⟨0, 16, 23, 15⟩, ⟨0, 16, 27, 64⟩] hT (fun z9 h9 => absurd h9 List.not_mem_nil) (by decide) (by decide) q241 q337 fun q9 H1 hF1 => ?_
  refine pb_astore C dX0_steps_19 hl (by decide) rfl fun ls hl => ?_
  have hl : lv_has ls 8 [(7, .ref (q9)), (0, .ref (b)), (1, .int (iZ (a1))), (2, .int (iZ (a2))), (3, .int (iZ (a3))), (4, .int (iZ (a4))), (5, .int (iZ (a5))), (6, .ref (oL))] := hl
  refine pb_ic C dX0_steps_21 ?_
  exact pb_iret C dX0_steps_22 (⟨_, rfl, rfl, hF1⟩)

set_option maxHeartbeats 1000000 in
theorem mex_X0_steps_2 {w : pb_W} (l : Launch) {H : Heap} (b oL : Nat) (fs : List Value) (hBo : pb_R w H b 0 fs) (a1 : Int) (a2 : Int) (a3 : Int) (a4 : Int) (a5 : Int) (dd mc ms : Nat) (hd : dd ≤ 14) (hM : pb_X w l yX1_steps cX1_steps 7 (some .int) dd mc ms [.ref b, .int (iZ a1), .int (iZ a2), .int (iZ a3), .int (iZ a4), .int (iZ a5)] H RJ14) : pb_MW w l yX0_steps cX0_steps 8 (some .int) [(0, 16, 19, 13), (0, 16, 23, 15), (0, 16, 27, 64)] 15 (mc) (ms) [.ref (b), .int (iZ (a1)), .int (iZ (a2)), .int (iZ (a3)), .int (iZ (a4)), .int (iZ (a5)), .ref (oL)] H (pb_qi (fun k H1 => k = 2 ∧ pb_F (fun _ => True) H H1)) := by
  refine pb_ofWH (by decide +kernel) (Nat.le_of_ble_eq_true rfl) ?_
  intro p_ e_ s_ m_ ar_ bl_ me_ co_ ls C hh hG hl hT hN
  have hl : lv_has ls 8 [(0, .ref (b)), (1, .int (iZ (a1))), (2, .int (iZ (a2))), (3, .int (iZ (a3))), (4, .int (iZ (a4))), (5, .int (iZ (a5))), (6, .ref (oL))] := hl
  refine pb_aload C dX0_steps_0 (lv_at hl 6 rfl) ?_
  refine pb_ic C dX0_steps_2 ?_
  refine pb_aload_n C dX0_steps_3 rfl (lv_at hl 0 rfl) ?_
  refine pb_iload_n C dX0_steps_4 rfl (lv_at hl 1 rfl) ?_
  refine pb_iload_n C dX0_steps_5 rfl (lv_at hl 2 rfl) ?_
  refine pb_iload_n C dX0_steps_6 rfl (lv_at hl 3 rfl) ?_
  refine pb_iload C dX0_steps_7 (lv_at hl 4 rfl) ?_
  refine pb_iload C dX0_steps_9 (lv_at hl 5 rfl) ?_
  refine pb_catch (bc' := mc - mc) (bs' := ms - ms) C (pb_runVX (rest := [.int (iZ (0)), .ref (oL)]) C hG (hM) hBo (ci := 0) rfl (lw_V q1544 q1545 q1546 q51 q1547) ⟨rfl, hdX1_steps⟩ rfl hl.1 rfl (Nat.le_of_ble_eq_true rfl) ⟨show dd + 1 ≤ 15 from by omega, show 8 + (7 + 11) + 64 * dd ≤ 64 * 15 from by omega⟩ dX0_steps_11) (by omega) (by omega) [⟨0, 16, 19, 13⟩] ⟨0, 16, 23, 15⟩ [⟨0, 16, 27, 64⟩] hT (List.forall_mem_cons.mpr ⟨⟨by decide, "java/lang/IndexOutOfBoundsException", q241, hN ("java/lang/IllegalArgumentException", "java/lang/IndexOutOfBoundsException") (by decide)⟩, (fun z9 h9 => absurd h9 List.not_mem_nil)⟩) (by decide) (by decide) q320 q386 fun q9 H1 hF1 => ?_
  refine pb_astore C dX0_steps_23 hl (by decide) rfl fun ls hl => ?_
  have hl : lv_has ls 8 [(7, .ref (q9)), (0, .ref (b)), (1, .int (iZ (a1))), (2, .int (iZ (a2))), (3, .int (iZ (a3))), (4, .int (iZ (a4))), (5, .int (iZ (a5))), (6, .ref (oL))] := hl
  refine pb_ic C dX0_steps_25 ?_
  exact pb_iret C dX0_steps_26 (⟨_, rfl, rfl, hF1⟩)

set_option maxHeartbeats 1000000 in
theorem mex_X0_steps_3 {w : pb_W} (l : Launch) {H : Heap} (b oL : Nat) (fs : List Value) (hBo : pb_R w H b 0 fs) (a1 : Int) (a2 : Int) (a3 : Int) (a4 : Int) (a5 : Int) (dd mc ms : Nat) (hd : dd ≤ 14) (hM : pb_X w l yX1_steps cX1_steps 7 (some .int) dd mc ms [.ref b, .int (iZ a1), .int (iZ a2), .int (iZ a3), .int (iZ a4), .int (iZ a5)] H RJ16) : pb_MW w l yX0_steps cX0_steps 8 (some .int) [(0, 16, 19, 13), (0, 16, 23, 15), (0, 16, 27, 64)] 15 (mc) (ms) [.ref (b), .int (iZ (a1)), .int (iZ (a2)), .int (iZ (a3)), .int (iZ (a4)), .int (iZ (a5)), .ref (oL)] H (pb_qi (fun k H1 => k = 3 ∧ pb_F (fun _ => True) H H1)) := by
  refine pb_ofWH (by decide +kernel) (Nat.le_of_ble_eq_true rfl) ?_
  intro p_ e_ s_ m_ ar_ bl_ me_ co_ ls C hh hG hl hT hN
  have hl : lv_has ls 8 [(0, .ref (b)), (1, .int (iZ (a1))), (2, .int (iZ (a2))), (3, .int (iZ (a3))), (4, .int (iZ (a4))), (5, .int (iZ (a5))), (6, .ref (oL))] := hl
  refine pb_aload C dX0_steps_0 (lv_at hl 6 rfl) ?_
  refine pb_ic C dX0_steps_2 ?_
  refine pb_aload_n C dX0_steps_3 rfl (lv_at hl 0 rfl) ?_
  refine pb_iload_n C dX0_steps_4 rfl (lv_at hl 1 rfl) ?_
  refine pb_iload_n C dX0_steps_5 rfl (lv_at hl 2 rfl) ?_
  refine pb_iload_n C dX0_steps_6 rfl (lv_at hl 3 rfl) ?_
  refine pb_iload C dX0_steps_7 (lv_at hl 4 rfl) ?_
  refine pb_iload C dX0_steps_9 (lv_at hl 5 rfl) ?_
  refine pb_catch (bc' := mc - mc) (bs' := ms - ms) C (pb_runVX (rest := [.int (iZ (0)), .ref (oL)]) C hG (hM) hBo (ci := 0) rfl (lw_V q1544 q1545 q1546 q51 q1547) ⟨rfl, hdX1_steps⟩ rfl hl.1 rfl (Nat.le_of_ble_eq_true rfl) ⟨show dd + 1 ≤ 15 from by omega, show 8 + (7 + 11) + 64 * dd ≤ 64 * 15 from by omega⟩ dX0_steps_11) (by omega) (by omega) [⟨0, 16, 19, 13⟩, ⟨0, 16, 23, 15⟩] ⟨0, 16, 27, 64⟩ [] hT (List.forall_mem_cons.mpr ⟨⟨by decide, "java/lang/IndexOutOfBoundsException", q241, hN ("java/util/NoSuchElementException", "java/lang/IndexOutOfBoundsException") (by decide)⟩, (List.forall_mem_cons.mpr ⟨⟨by decide, "java/lang/IllegalArgumentException", q320, hN ("java/util/NoSuchElementException", "java/lang/IllegalArgumentException") (by decide)⟩, (fun z9 h9 => absurd h9 List.not_mem_nil)⟩)⟩) (by decide) (by decide) q1045 q572 fun q9 H1 hF1 => ?_
  refine pb_astore C dX0_steps_27 hl (by decide) rfl fun ls hl => ?_
  have hl : lv_has ls 8 [(7, .ref (q9)), (0, .ref (b)), (1, .int (iZ (a1))), (2, .int (iZ (a2))), (3, .int (iZ (a3))), (4, .int (iZ (a4))), (5, .int (iZ (a5))), (6, .ref (oL))] := hl
  refine pb_ic C dX0_steps_29 ?_
  exact pb_iret C dX0_steps_30 (⟨_, rfl, rfl, hF1⟩)

set_option maxHeartbeats 1000000 in
theorem met_X0_stepsByRows {w : pb_W} (l : Launch) {H : Heap} (b oL : Nat) (fs : List Value) (hBo : pb_R w H b 0 fs) (a1 : Int) (a2 : Int) (a3 : Int) (a4 : Int) (a5 : Int) (dd mc ms : Nat) (post : Int → Heap → Prop) (g0 : Nat → Value) (hd : dd ≤ 14) (hM : pb_M w l yX1_stepsByRows cX1_stepsByRows 10 (some .int) dd mc ms [.ref b, .int (iZ a1), .int (iZ a2), .int (iZ a3), .int (iZ a4), .int (iZ a5)] H (pb_qi post)) (hk : ∀ z H1, post z H1 → pb_F (fun q => q < w.2.2.2) H H1 ∧ H1[oL]? = H[oL]? ∧ -2147483648 ≤ z ∧ z ≤ 2147483647) (hA : pb_A w H oL 2 1 g0) (hz : w.2.2.2 ≤ oL) : pb_MW w l yX0_stepsByRows cX0_stepsByRows 8 (some .int) [(0, 16, 19, 13), (0, 16, 23, 15), (0, 16, 27, 64)] 15 (mc) (ms) [.ref (b), .int (iZ (a1)), .int (iZ (a2)), .int (iZ (a3)), .int (iZ (a4)), .int (iZ (a5)), .ref (oL)] H (pb_qi (fun k H2 => k = 0 ∧ ∃ z H1 g, post z H1 ∧ pb_A w H2 oL 2 1 (updV g 0 (.long (lZ z))) ∧ pb_Up oL H1 H2)) := by
  refine pb_ofWH (by decide +kernel) (Nat.le_of_ble_eq_true rfl) ?_
  intro p_ e_ s_ m_ ar_ bl_ me_ co_ ls C hh hG hl hT hN
  have hl : lv_has ls 8 [(0, .ref (b)), (1, .int (iZ (a1))), (2, .int (iZ (a2))), (3, .int (iZ (a3))), (4, .int (iZ (a4))), (5, .int (iZ (a5))), (6, .ref (oL))] := hl
  refine pb_aload C dX0_stepsByRows_0 (lv_at hl 6 rfl) ?_
  refine pb_ic C dX0_stepsByRows_2 ?_
  refine pb_aload_n C dX0_stepsByRows_3 rfl (lv_at hl 0 rfl) ?_
  refine pb_iload_n C dX0_stepsByRows_4 rfl (lv_at hl 1 rfl) ?_
  refine pb_iload_n C dX0_stepsByRows_5 rfl (lv_at hl 2 rfl) ?_
  refine pb_iload_n C dX0_stepsByRows_6 rfl (lv_at hl 3 rfl) ?_
  refine pb_iload C dX0_stepsByRows_7 (lv_at hl 4 rfl) ?_
  refine pb_iload C dX0_stepsByRows_9 (lv_at hl 5 rfl) ?_
  refine pb_go_i (bc' := mc - mc) (bs' := ms - ms) (pb_runV (rest := [.int (iZ (0)), .ref (oL)]) C hG (hM) hBo (ci := 0) rfl (lw_V q1579 q1580 q1581 q51 q1582) ⟨rfl, hdX1_stepsByRows⟩ rfl hl.1 rfl (Nat.le_of_ble_eq_true rfl) ⟨show dd + 1 ≤ 15 from by omega, show 8 + (10 + 11) + 64 * dd ≤ 64 * 15 from by omega⟩ dX0_stepsByRows_11) (by omega) (by omega) (fun z_ H1 hp_ => ?_)
  obtain ⟨hF1, ho1, hzr⟩ := hk _ _ hp_
  have hG := hG.kept hF1
  have hA := hA.kept ho1
  refine pb_i2l C dX0_stepsByRows_14 (x := z_) (by omega) ?_
  refine pb_last C hA (i := 0) (by omega) (by omega) dX0_stepsByRows_15 fun H1_ hu_ hA => ?_
  have hG := hG.kept (hu_.z (by omega))
  refine pb_goto C dX0_stepsByRows_16 (tgt := 31) (by decide) ?_
  refine pb_ic C dX0_stepsByRows_31 ?_
  exact pb_iret C dX0_stepsByRows_32 (⟨_, rfl, rfl, _, _, _, hp_, hA, hu_⟩)

set_option maxHeartbeats 1000000 in
theorem mex_X0_stepsByRows_1 {w : pb_W} (l : Launch) {H : Heap} (b oL : Nat) (fs : List Value) (hBo : pb_R w H b 0 fs) (a1 : Int) (a2 : Int) (a3 : Int) (a4 : Int) (a5 : Int) (dd mc ms : Nat) (hd : dd ≤ 14) (hM : pb_X w l yX1_stepsByRows cX1_stepsByRows 10 (some .int) dd mc ms [.ref b, .int (iZ a1), .int (iZ a2), .int (iZ a3), .int (iZ a4), .int (iZ a5)] H RJ9) : pb_MW w l yX0_stepsByRows cX0_stepsByRows 8 (some .int) [(0, 16, 19, 13), (0, 16, 23, 15), (0, 16, 27, 64)] 15 (mc) (ms) [.ref (b), .int (iZ (a1)), .int (iZ (a2)), .int (iZ (a3)), .int (iZ (a4)), .int (iZ (a5)), .ref (oL)] H (pb_qi (fun k H1 => k = 1 ∧ pb_F (fun _ => True) H H1)) := by
  refine pb_ofWH (by decide +kernel) (Nat.le_of_ble_eq_true rfl) ?_
  intro p_ e_ s_ m_ ar_ bl_ me_ co_ ls C hh hG hl hT hN
  have hl : lv_has ls 8 [(0, .ref (b)), (1, .int (iZ (a1))), (2, .int (iZ (a2))), (3, .int (iZ (a3))), (4, .int (iZ (a4))), (5, .int (iZ (a5))), (6, .ref (oL))] := hl
  refine pb_aload C dX0_stepsByRows_0 (lv_at hl 6 rfl) ?_
  refine pb_ic C dX0_stepsByRows_2 ?_
  refine pb_aload_n C dX0_stepsByRows_3 rfl (lv_at hl 0 rfl) ?_
  refine pb_iload_n C dX0_stepsByRows_4 rfl (lv_at hl 1 rfl) ?_
  refine pb_iload_n C dX0_stepsByRows_5 rfl (lv_at hl 2 rfl) ?_
  refine pb_iload_n C dX0_stepsByRows_6 rfl (lv_at hl 3 rfl) ?_
  refine pb_iload C dX0_stepsByRows_7 (lv_at hl 4 rfl) ?_
  refine pb_iload C dX0_stepsByRows_9 (lv_at hl 5 rfl) ?_
  refine pb_catch (bc' := mc - mc) (bs' := ms - ms) C (pb_runVX (rest := [.int (iZ (0)), .ref (oL)]) C hG (hM) hBo (ci := 0) rfl (lw_V q1579 q1580 q1581 q51 q1582) ⟨rfl, hdX1_stepsByRows⟩ rfl hl.1 rfl (Nat.le_of_ble_eq_true rfl) ⟨show dd + 1 ≤ 15 from by omega, show 8 + (10 + 11) + 64 * dd ≤ 64 * 15 from by omega⟩ dX0_stepsByRows_11) (by omega) (by omega) [] ⟨0, 16, 19, 13⟩ [⟨0, 16, 23, 15⟩, ⟨0, 16, 27, 64⟩] hT (fun z9 h9 => absurd h9 List.not_mem_nil) (by decide) (by decide) q241 q337 fun q9 H1 hF1 => ?_
  refine pb_astore C dX0_stepsByRows_19 hl (by decide) rfl fun ls hl => ?_
  have hl : lv_has ls 8 [(7, .ref (q9)), (0, .ref (b)), (1, .int (iZ (a1))), (2, .int (iZ (a2))), (3, .int (iZ (a3))), (4, .int (iZ (a4))), (5, .int (iZ (a5))), (6, .ref (oL))] := hl
  refine pb_ic C dX0_stepsByRows_21 ?_
  exact pb_iret C dX0_stepsByRows_22 (⟨_, rfl, rfl, hF1⟩)

set_option maxHeartbeats 1000000 in
theorem mex_X0_stepsByRows_2 {w : pb_W} (l : Launch) {H : Heap} (b oL : Nat) (fs : List Value) (hBo : pb_R w H b 0 fs) (a1 : Int) (a2 : Int) (a3 : Int) (a4 : Int) (a5 : Int) (dd mc ms : Nat) (hd : dd ≤ 14) (hM : pb_X w l yX1_stepsByRows cX1_stepsByRows 10 (some .int) dd mc ms [.ref b, .int (iZ a1), .int (iZ a2), .int (iZ a3), .int (iZ a4), .int (iZ a5)] H RJ14) : pb_MW w l yX0_stepsByRows cX0_stepsByRows 8 (some .int) [(0, 16, 19, 13), (0, 16, 23, 15), (0, 16, 27, 64)] 15 (mc) (ms) [.ref (b), .int (iZ (a1)), .int (iZ (a2)), .int (iZ (a3)), .int (iZ (a4)), .int (iZ (a5)), .ref (oL)] H (pb_qi (fun k H1 => k = 2 ∧ pb_F (fun _ => True) H H1)) := by
  refine pb_ofWH (by decide +kernel) (Nat.le_of_ble_eq_true rfl) ?_
  intro p_ e_ s_ m_ ar_ bl_ me_ co_ ls C hh hG hl hT hN
  have hl : lv_has ls 8 [(0, .ref (b)), (1, .int (iZ (a1))), (2, .int (iZ (a2))), (3, .int (iZ (a3))), (4, .int (iZ (a4))), (5, .int (iZ (a5))), (6, .ref (oL))] := hl
  refine pb_aload C dX0_stepsByRows_0 (lv_at hl 6 rfl) ?_
  refine pb_ic C dX0_stepsByRows_2 ?_
  refine pb_aload_n C dX0_stepsByRows_3 rfl (lv_at hl 0 rfl) ?_
  refine pb_iload_n C dX0_stepsByRows_4 rfl (lv_at hl 1 rfl) ?_
  refine pb_iload_n C dX0_stepsByRows_5 rfl (lv_at hl 2 rfl) ?_
  refine pb_iload_n C dX0_stepsByRows_6 rfl (lv_at hl 3 rfl) ?_
  refine pb_iload C dX0_stepsByRows_7 (lv_at hl 4 rfl) ?_
  refine pb_iload C dX0_stepsByRows_9 (lv_at hl 5 rfl) ?_
  refine pb_catch (bc' := mc - mc) (bs' := ms - ms) C (pb_runVX (rest := [.int (iZ (0)), .ref (oL)]) C hG (hM) hBo (ci := 0) rfl (lw_V q1579 q1580 q1581 q51 q1582) ⟨rfl, hdX1_stepsByRows⟩ rfl hl.1 rfl (Nat.le_of_ble_eq_true rfl) ⟨show dd + 1 ≤ 15 from by omega, show 8 + (10 + 11) + 64 * dd ≤ 64 * 15 from by omega⟩ dX0_stepsByRows_11) (by omega) (by omega) [⟨0, 16, 19, 13⟩] ⟨0, 16, 23, 15⟩ [⟨0, 16, 27, 64⟩] hT (List.forall_mem_cons.mpr ⟨⟨by decide, "java/lang/IndexOutOfBoundsException", q241, hN ("java/lang/IllegalArgumentException", "java/lang/IndexOutOfBoundsException") (by decide)⟩, (fun z9 h9 => absurd h9 List.not_mem_nil)⟩) (by decide) (by decide) q320 q386 fun q9 H1 hF1 => ?_
  refine pb_astore C dX0_stepsByRows_23 hl (by decide) rfl fun ls hl => ?_
  have hl : lv_has ls 8 [(7, .ref (q9)), (0, .ref (b)), (1, .int (iZ (a1))), (2, .int (iZ (a2))), (3, .int (iZ (a3))), (4, .int (iZ (a4))), (5, .int (iZ (a5))), (6, .ref (oL))] := hl
  refine pb_ic C dX0_stepsByRows_25 ?_
  exact pb_iret C dX0_stepsByRows_26 (⟨_, rfl, rfl, hF1⟩)

set_option maxHeartbeats 1000000 in
theorem mex_X0_stepsByRows_3 {w : pb_W} (l : Launch) {H : Heap} (b oL : Nat) (fs : List Value) (hBo : pb_R w H b 0 fs) (a1 : Int) (a2 : Int) (a3 : Int) (a4 : Int) (a5 : Int) (dd mc ms : Nat) (hd : dd ≤ 14) (hM : pb_X w l yX1_stepsByRows cX1_stepsByRows 10 (some .int) dd mc ms [.ref b, .int (iZ a1), .int (iZ a2), .int (iZ a3), .int (iZ a4), .int (iZ a5)] H RJ16) : pb_MW w l yX0_stepsByRows cX0_stepsByRows 8 (some .int) [(0, 16, 19, 13), (0, 16, 23, 15), (0, 16, 27, 64)] 15 (mc) (ms) [.ref (b), .int (iZ (a1)), .int (iZ (a2)), .int (iZ (a3)), .int (iZ (a4)), .int (iZ (a5)), .ref (oL)] H (pb_qi (fun k H1 => k = 3 ∧ pb_F (fun _ => True) H H1)) := by
  refine pb_ofWH (by decide +kernel) (Nat.le_of_ble_eq_true rfl) ?_
  intro p_ e_ s_ m_ ar_ bl_ me_ co_ ls C hh hG hl hT hN
  have hl : lv_has ls 8 [(0, .ref (b)), (1, .int (iZ (a1))), (2, .int (iZ (a2))), (3, .int (iZ (a3))), (4, .int (iZ (a4))), (5, .int (iZ (a5))), (6, .ref (oL))] := hl
  refine pb_aload C dX0_stepsByRows_0 (lv_at hl 6 rfl) ?_
  refine pb_ic C dX0_stepsByRows_2 ?_
  refine pb_aload_n C dX0_stepsByRows_3 rfl (lv_at hl 0 rfl) ?_
  refine pb_iload_n C dX0_stepsByRows_4 rfl (lv_at hl 1 rfl) ?_
  refine pb_iload_n C dX0_stepsByRows_5 rfl (lv_at hl 2 rfl) ?_
  refine pb_iload_n C dX0_stepsByRows_6 rfl (lv_at hl 3 rfl) ?_
  refine pb_iload C dX0_stepsByRows_7 (lv_at hl 4 rfl) ?_
  refine pb_iload C dX0_stepsByRows_9 (lv_at hl 5 rfl) ?_
  refine pb_catch (bc' := mc - mc) (bs' := ms - ms) C (pb_runVX (rest := [.int (iZ (0)), .ref (oL)]) C hG (hM) hBo (ci := 0) rfl (lw_V q1579 q1580 q1581 q51 q1582) ⟨rfl, hdX1_stepsByRows⟩ rfl hl.1 rfl (Nat.le_of_ble_eq_true rfl) ⟨show dd + 1 ≤ 15 from by omega, show 8 + (10 + 11) + 64 * dd ≤ 64 * 15 from by omega⟩ dX0_stepsByRows_11) (by omega) (by omega) [⟨0, 16, 19, 13⟩, ⟨0, 16, 23, 15⟩] ⟨0, 16, 27, 64⟩ [] hT (List.forall_mem_cons.mpr ⟨⟨by decide, "java/lang/IndexOutOfBoundsException", q241, hN ("java/util/NoSuchElementException", "java/lang/IndexOutOfBoundsException") (by decide)⟩, (List.forall_mem_cons.mpr ⟨⟨by decide, "java/lang/IllegalArgumentException", q320, hN ("java/util/NoSuchElementException", "java/lang/IllegalArgumentException") (by decide)⟩, (fun z9 h9 => absurd h9 List.not_mem_nil)⟩)⟩) (by decide) (by decide) q1045 q572 fun q9 H1 hF1 => ?_
  refine pb_astore C dX0_stepsByRows_27 hl (by decide) rfl fun ls hl => ?_
  have hl : lv_has ls 8 [(7, .ref (q9)), (0, .ref (b)), (1, .int (iZ (a1))), (2, .int (iZ (a2))), (3, .int (iZ (a3))), (4, .int (iZ (a4))), (5, .int (iZ (a5))), (6, .ref (oL))] := hl
  refine pb_ic C dX0_stepsByRows_29 ?_
  exact pb_iret C dX0_stepsByRows_30 (⟨_, rfl, rfl, hF1⟩)

set_option maxHeartbeats 1000000 in
theorem met_X0_outlineCount {w : pb_W} (l : Launch) {H : Heap} (b oL : Nat) (fs : List Value) (hBo : pb_R w H b 0 fs) (a1 : Int) (dd mc ms : Nat) (post : Int → Heap → Prop) (g0 : Nat → Value) (hd : dd ≤ 14) (hM : pb_M w l yX1_outlineCount cX1_outlineCount 2 (some .int) dd mc ms [.ref b, .int (iZ a1)] H (pb_qi post)) (hk : ∀ z H1, post z H1 → pb_F (fun q => q < w.2.2.2) H H1 ∧ H1[oL]? = H[oL]? ∧ -2147483648 ≤ z ∧ z ≤ 2147483647) (hA : pb_A w H oL 2 1 g0) (hz : w.2.2.2 ≤ oL) : pb_MW w l yX0_outlineCount cX0_outlineCount 4 (some .int) [(0, 9, 12, 13)] 15 (mc) (ms) [.ref (b), .int (iZ (a1)), .ref (oL)] H (pb_qi (fun k H2 => k = 0 ∧ ∃ z H1 g, post z H1 ∧ pb_A w H2 oL 2 1 (updV g 0 (.long (lZ z))) ∧ pb_Up oL H1 H2)) := by
  refine pb_ofWH (by decide +kernel) (Nat.le_of_ble_eq_true rfl) ?_
  intro p_ e_ s_ m_ ar_ bl_ me_ co_ ls C hh hG hl hT hN
  have hl : lv_has ls 4 [(0, .ref (b)), (1, .int (iZ (a1))), (2, .ref (oL))] := hl
  refine pb_aload_n C dX0_outlineCount_0 rfl (lv_at hl 2 rfl) ?_
  refine pb_ic C dX0_outlineCount_1 ?_
  refine pb_aload_n C dX0_outlineCount_2 rfl (lv_at hl 0 rfl) ?_
  refine pb_iload_n C dX0_outlineCount_3 rfl (lv_at hl 1 rfl) ?_
  refine pb_go_i (bc' := mc - mc) (bs' := ms - ms) (pb_runV (rest := [.int (iZ (0)), .ref (oL)]) C hG (hM) hBo (ci := 0) rfl (lw_V q1588 q1589 q1590 q51 q1591) ⟨rfl, hdX1_outlineCount⟩ rfl hl.1 rfl (Nat.le_of_ble_eq_true rfl) ⟨show dd + 1 ≤ 15 from by omega, show 8 + (2 + 11) + 64 * dd ≤ 64 * 15 from by omega⟩ dX0_outlineCount_4) (by omega) (by omega) (fun z_ H1 hp_ => ?_)
  obtain ⟨hF1, ho1, hzr⟩ := hk _ _ hp_
  have hG := hG.kept hF1
  have hA := hA.kept ho1
  refine pb_i2l C dX0_outlineCount_7 (x := z_) (by omega) ?_
  refine pb_last C hA (i := 0) (by omega) (by omega) dX0_outlineCount_8 fun H1_ hu_ hA => ?_
  have hG := hG.kept (hu_.z (by omega))
  refine pb_goto C dX0_outlineCount_9 (tgt := 15) (by decide) ?_
  refine pb_ic C dX0_outlineCount_15 ?_
  exact pb_iret C dX0_outlineCount_16 (⟨_, rfl, rfl, _, _, _, hp_, hA, hu_⟩)

set_option maxHeartbeats 1000000 in
theorem mex_X0_outlineCount_1 {w : pb_W} (l : Launch) {H : Heap} (b oL : Nat) (fs : List Value) (hBo : pb_R w H b 0 fs) (a1 : Int) (dd mc ms : Nat) (hd : dd ≤ 14) (hM : pb_X w l yX1_outlineCount cX1_outlineCount 2 (some .int) dd mc ms [.ref b, .int (iZ a1)] H RJ9) : pb_MW w l yX0_outlineCount cX0_outlineCount 4 (some .int) [(0, 9, 12, 13)] 15 (mc) (ms) [.ref (b), .int (iZ (a1)), .ref (oL)] H (pb_qi (fun k H1 => k = 1 ∧ pb_F (fun _ => True) H H1)) := by
  refine pb_ofWH (by decide +kernel) (Nat.le_of_ble_eq_true rfl) ?_
  intro p_ e_ s_ m_ ar_ bl_ me_ co_ ls C hh hG hl hT hN
  have hl : lv_has ls 4 [(0, .ref (b)), (1, .int (iZ (a1))), (2, .ref (oL))] := hl
  refine pb_aload_n C dX0_outlineCount_0 rfl (lv_at hl 2 rfl) ?_
  refine pb_ic C dX0_outlineCount_1 ?_
  refine pb_aload_n C dX0_outlineCount_2 rfl (lv_at hl 0 rfl) ?_
  refine pb_iload_n C dX0_outlineCount_3 rfl (lv_at hl 1 rfl) ?_
  refine pb_catch (bc' := mc - mc) (bs' := ms - ms) C (pb_runVX (rest := [.int (iZ (0)), .ref (oL)]) C hG (hM) hBo (ci := 0) rfl (lw_V q1588 q1589 q1590 q51 q1591) ⟨rfl, hdX1_outlineCount⟩ rfl hl.1 rfl (Nat.le_of_ble_eq_true rfl) ⟨show dd + 1 ≤ 15 from by omega, show 8 + (2 + 11) + 64 * dd ≤ 64 * 15 from by omega⟩ dX0_outlineCount_4) (by omega) (by omega) [] ⟨0, 9, 12, 13⟩ [] hT (fun z9 h9 => absurd h9 List.not_mem_nil) (by decide) (by decide) q241 q337 fun q9 H1 hF1 => ?_
  refine pb_astore_n C dX0_outlineCount_12 rfl hl (by decide) rfl fun ls hl => ?_
  have hl : lv_has ls 4 [(3, .ref (q9)), (0, .ref (b)), (1, .int (iZ (a1))), (2, .ref (oL))] := hl
  refine pb_ic C dX0_outlineCount_13 ?_
  exact pb_iret C dX0_outlineCount_14 (⟨_, rfl, rfl, hF1⟩)

set_option maxHeartbeats 1000000 in
theorem met_X0_cornerCount {w : pb_W} (l : Launch) {H : Heap} (b oL : Nat) (fs : List Value) (hBo : pb_R w H b 0 fs) (a1 : Int) (a2 : Int) (dd mc ms : Nat) (post : Int → Heap → Prop) (g0 : Nat → Value) (hd : dd ≤ 14) (hM : pb_M w l yX1_cornerCount cX1_cornerCount 3 (some .int) dd mc ms [.ref b, .int (iZ a1), .int (iZ a2)] H (pb_qi post)) (hk : ∀ z H1, post z H1 → pb_F (fun q => q < w.2.2.2) H H1 ∧ H1[oL]? = H[oL]? ∧ -2147483648 ≤ z ∧ z ≤ 2147483647) (hA : pb_A w H oL 2 1 g0) (hz : w.2.2.2 ≤ oL) : pb_MW w l yX0_cornerCount cX0_cornerCount 5 (some .int) [(0, 10, 13, 13), (0, 10, 17, 64)] 15 (mc) (ms) [.ref (b), .int (iZ (a1)), .int (iZ (a2)), .ref (oL)] H (pb_qi (fun k H2 => k = 0 ∧ ∃ z H1 g, post z H1 ∧ pb_A w H2 oL 2 1 (updV g 0 (.long (lZ z))) ∧ pb_Up oL H1 H2)) := by
  refine pb_ofWH (by decide +kernel) (Nat.le_of_ble_eq_true rfl) ?_
  intro p_ e_ s_ m_ ar_ bl_ me_ co_ ls C hh hG hl hT hN
  have hl : lv_has ls 5 [(0, .ref (b)), (1, .int (iZ (a1))), (2, .int (iZ (a2))), (3, .ref (oL))] := hl
  refine pb_aload_n C dX0_cornerCount_0 rfl (lv_at hl 3 rfl) ?_
  refine pb_ic C dX0_cornerCount_1 ?_
  refine pb_aload_n C dX0_cornerCount_2 rfl (lv_at hl 0 rfl) ?_
  refine pb_iload_n C dX0_cornerCount_3 rfl (lv_at hl 1 rfl) ?_
  refine pb_iload_n C dX0_cornerCount_4 rfl (lv_at hl 2 rfl) ?_
  refine pb_go_i (bc' := mc - mc) (bs' := ms - ms) (pb_runV (rest := [.int (iZ (0)), .ref (oL)]) C hG (hM) hBo (ci := 0) rfl (lw_V q1595 q1596 q1597 q51 q1598) ⟨rfl, hdX1_cornerCount⟩ rfl hl.1 rfl (Nat.le_of_ble_eq_true rfl) ⟨show dd + 1 ≤ 15 from by omega, show 8 + (3 + 11) + 64 * dd ≤ 64 * 15 from by omega⟩ dX0_cornerCount_5) (by omega) (by omega) (fun z_ H1 hp_ => ?_)
  obtain ⟨hF1, ho1, hzr⟩ := hk _ _ hp_
  have hG := hG.kept hF1
  have hA := hA.kept ho1
  refine pb_i2l C dX0_cornerCount_8 (x := z_) (by omega) ?_
  refine pb_last C hA (i := 0) (by omega) (by omega) dX0_cornerCount_9 fun H1_ hu_ hA => ?_
  have hG := hG.kept (hu_.z (by omega))
  refine pb_goto C dX0_cornerCount_10 (tgt := 21) (by decide) ?_
  refine pb_ic C dX0_cornerCount_21 ?_
  exact pb_iret C dX0_cornerCount_22 (⟨_, rfl, rfl, _, _, _, hp_, hA, hu_⟩)

set_option maxHeartbeats 1000000 in
theorem mex_X0_cornerCount_1 {w : pb_W} (l : Launch) {H : Heap} (b oL : Nat) (fs : List Value) (hBo : pb_R w H b 0 fs) (a1 : Int) (a2 : Int) (dd mc ms : Nat) (hd : dd ≤ 14) (hM : pb_X w l yX1_cornerCount cX1_cornerCount 3 (some .int) dd mc ms [.ref b, .int (iZ a1), .int (iZ a2)] H RJ9) : pb_MW w l yX0_cornerCount cX0_cornerCount 5 (some .int) [(0, 10, 13, 13), (0, 10, 17, 64)] 15 (mc) (ms) [.ref (b), .int (iZ (a1)), .int (iZ (a2)), .ref (oL)] H (pb_qi (fun k H1 => k = 1 ∧ pb_F (fun _ => True) H H1)) := by
  refine pb_ofWH (by decide +kernel) (Nat.le_of_ble_eq_true rfl) ?_
  intro p_ e_ s_ m_ ar_ bl_ me_ co_ ls C hh hG hl hT hN
  have hl : lv_has ls 5 [(0, .ref (b)), (1, .int (iZ (a1))), (2, .int (iZ (a2))), (3, .ref (oL))] := hl
  refine pb_aload_n C dX0_cornerCount_0 rfl (lv_at hl 3 rfl) ?_
  refine pb_ic C dX0_cornerCount_1 ?_
  refine pb_aload_n C dX0_cornerCount_2 rfl (lv_at hl 0 rfl) ?_
  refine pb_iload_n C dX0_cornerCount_3 rfl (lv_at hl 1 rfl) ?_
  refine pb_iload_n C dX0_cornerCount_4 rfl (lv_at hl 2 rfl) ?_
  refine pb_catch (bc' := mc - mc) (bs' := ms - ms) C (pb_runVX (rest := [.int (iZ (0)), .ref (oL)]) C hG (hM) hBo (ci := 0) rfl (lw_V q1595 q1596 q1597 q51 q1598) ⟨rfl, hdX1_cornerCount⟩ rfl hl.1 rfl (Nat.le_of_ble_eq_true rfl) ⟨show dd + 1 ≤ 15 from by omega, show 8 + (3 + 11) + 64 * dd ≤ 64 * 15 from by omega⟩ dX0_cornerCount_5) (by omega) (by omega) [] ⟨0, 10, 13, 13⟩ [⟨0, 10, 17, 64⟩] hT (fun z9 h9 => absurd h9 List.not_mem_nil) (by decide) (by decide) q241 q337 fun q9 H1 hF1 => ?_
  refine pb_astore C dX0_cornerCount_13 hl (by decide) rfl fun ls hl => ?_
  have hl : lv_has ls 5 [(4, .ref (q9)), (0, .ref (b)), (1, .int (iZ (a1))), (2, .int (iZ (a2))), (3, .ref (oL))] := hl
  refine pb_ic C dX0_cornerCount_15 ?_
  exact pb_iret C dX0_cornerCount_16 (⟨_, rfl, rfl, hF1⟩)

set_option maxHeartbeats 1000000 in
theorem mex_X0_cornerCount_2 {w : pb_W} (l : Launch) {H : Heap} (b oL : Nat) (fs : List Value) (hBo : pb_R w H b 0 fs) (a1 : Int) (a2 : Int) (dd mc ms : Nat) (hd : dd ≤ 14) (hM : pb_X w l yX1_cornerCount cX1_cornerCount 3 (some .int) dd mc ms [.ref b, .int (iZ a1), .int (iZ a2)] H RJ16) : pb_MW w l yX0_cornerCount cX0_cornerCount 5 (some .int) [(0, 10, 13, 13), (0, 10, 17, 64)] 15 (mc) (ms) [.ref (b), .int (iZ (a1)), .int (iZ (a2)), .ref (oL)] H (pb_qi (fun k H1 => k = 2 ∧ pb_F (fun _ => True) H H1)) := by
  refine pb_ofWH (by decide +kernel) (Nat.le_of_ble_eq_true rfl) ?_
  intro p_ e_ s_ m_ ar_ bl_ me_ co_ ls C hh hG hl hT hN
  have hl : lv_has ls 5 [(0, .ref (b)), (1, .int (iZ (a1))), (2, .int (iZ (a2))), (3, .ref (oL))] := hl
  refine pb_aload_n C dX0_cornerCount_0 rfl (lv_at hl 3 rfl) ?_
  refine pb_ic C dX0_cornerCount_1 ?_
  refine pb_aload_n C dX0_cornerCount_2 rfl (lv_at hl 0 rfl) ?_
  refine pb_iload_n C dX0_cornerCount_3 rfl (lv_at hl 1 rfl) ?_
  refine pb_iload_n C dX0_cornerCount_4 rfl (lv_at hl 2 rfl) ?_
  refine pb_catch (bc' := mc - mc) (bs' := ms - ms) C (pb_runVX (rest := [.int (iZ (0)), .ref (oL)]) C hG (hM) hBo (ci := 0) rfl (lw_V q1595 q1596 q1597 q51 q1598) ⟨rfl, hdX1_cornerCount⟩ rfl hl.1 rfl (Nat.le_of_ble_eq_true rfl) ⟨show dd + 1 ≤ 15 from by omega, show 8 + (3 + 11) + 64 * dd ≤ 64 * 15 from by omega⟩ dX0_cornerCount_5) (by omega) (by omega) [⟨0, 10, 13, 13⟩] ⟨0, 10, 17, 64⟩ [] hT (List.forall_mem_cons.mpr ⟨⟨by decide, "java/lang/IndexOutOfBoundsException", q241, hN ("java/util/NoSuchElementException", "java/lang/IndexOutOfBoundsException") (by decide)⟩, (fun z9 h9 => absurd h9 List.not_mem_nil)⟩) (by decide) (by decide) q1045 q572 fun q9 H1 hF1 => ?_
  refine pb_astore C dX0_cornerCount_17 hl (by decide) rfl fun ls hl => ?_
  have hl : lv_has ls 5 [(4, .ref (q9)), (0, .ref (b)), (1, .int (iZ (a1))), (2, .int (iZ (a2))), (3, .ref (oL))] := hl
  refine pb_ic C dX0_cornerCount_19 ?_
  exact pb_iret C dX0_cornerCount_20 (⟨_, rfl, rfl, hF1⟩)

set_option maxHeartbeats 1000000 in
theorem met_X0_cornerX {w : pb_W} (l : Launch) {H : Heap} (b oL : Nat) (fs : List Value) (hBo : pb_R w H b 0 fs) (a1 : Int) (a2 : Int) (a3 : Int) (dd mc ms : Nat) (post : Int → Heap → Prop) (g0 : Nat → Value) (hd : dd ≤ 14) (hM : pb_M w l yX1_cornerX cX1_cornerX 4 (some .int) dd mc ms [.ref b, .int (iZ a1), .int (iZ a2), .int (iZ a3)] H (pb_qi post)) (hk : ∀ z H1, post z H1 → pb_F (fun q => q < w.2.2.2) H H1 ∧ H1[oL]? = H[oL]? ∧ -2147483648 ≤ z ∧ z ≤ 2147483647) (hA : pb_A w H oL 2 1 g0) (hz : w.2.2.2 ≤ oL) : pb_MW w l yX0_cornerX cX0_cornerX 6 (some .int) [(0, 12, 15, 13), (0, 12, 19, 64)] 15 (mc) (ms) [.ref (b), .int (iZ (a1)), .int (iZ (a2)), .int (iZ (a3)), .ref (oL)] H (pb_qi (fun k H2 => k = 0 ∧ ∃ z H1 g, post z H1 ∧ pb_A w H2 oL 2 1 (updV g 0 (.long (lZ z))) ∧ pb_Up oL H1 H2)) := by
  refine pb_ofWH (by decide +kernel) (Nat.le_of_ble_eq_true rfl) ?_
  intro p_ e_ s_ m_ ar_ bl_ me_ co_ ls C hh hG hl hT hN
  have hl : lv_has ls 6 [(0, .ref (b)), (1, .int (iZ (a1))), (2, .int (iZ (a2))), (3, .int (iZ (a3))), (4, .ref (oL))] := hl
  refine pb_aload C dX0_cornerX_0 (lv_at hl 4 rfl) ?_
  refine pb_ic C dX0_cornerX_2 ?_
  refine pb_aload_n C dX0_cornerX_3 rfl (lv_at hl 0 rfl) ?_
  refine pb_iload_n C dX0_cornerX_4 rfl (lv_at hl 1 rfl) ?_
  refine pb_iload_n C dX0_cornerX_5 rfl (lv_at hl 2 rfl) ?_
  refine pb_iload_n C dX0_cornerX_6 rfl (lv_at hl 3 rfl) ?_
  refine pb_go_i (bc' := mc - mc) (bs' := ms - ms) (pb_runV (rest := [.int (iZ (0)), .ref (oL)]) C hG (hM) hBo (ci := 0) rfl (lw_V q1606 q1607 q1608 q51 q1609) ⟨rfl, hdX1_cornerX⟩ rfl hl.1 rfl (Nat.le_of_ble_eq_true rfl) ⟨show dd + 1 ≤ 15 from by omega, show 8 + (4 + 11) + 64 * dd ≤ 64 * 15 from by omega⟩ dX0_cornerX_7) (by omega) (by omega) (fun z_ H1 hp_ => ?_)
  obtain ⟨hF1, ho1, hzr⟩ := hk _ _ hp_
  have hG := hG.kept hF1
  have hA := hA.kept ho1
  refine pb_i2l C dX0_cornerX_10 (x := z_) (by omega) ?_
  refine pb_last C hA (i := 0) (by omega) (by omega) dX0_cornerX_11 fun H1_ hu_ hA => ?_
  have hG := hG.kept (hu_.z (by omega))
  refine pb_goto C dX0_cornerX_12 (tgt := 23) (by decide) ?_
  refine pb_ic C dX0_cornerX_23 ?_
  exact pb_iret C dX0_cornerX_24 (⟨_, rfl, rfl, _, _, _, hp_, hA, hu_⟩)

set_option maxHeartbeats 1000000 in
theorem mex_X0_cornerX_1 {w : pb_W} (l : Launch) {H : Heap} (b oL : Nat) (fs : List Value) (hBo : pb_R w H b 0 fs) (a1 : Int) (a2 : Int) (a3 : Int) (dd mc ms : Nat) (hd : dd ≤ 14) (hM : pb_X w l yX1_cornerX cX1_cornerX 4 (some .int) dd mc ms [.ref b, .int (iZ a1), .int (iZ a2), .int (iZ a3)] H RJ9) : pb_MW w l yX0_cornerX cX0_cornerX 6 (some .int) [(0, 12, 15, 13), (0, 12, 19, 64)] 15 (mc) (ms) [.ref (b), .int (iZ (a1)), .int (iZ (a2)), .int (iZ (a3)), .ref (oL)] H (pb_qi (fun k H1 => k = 1 ∧ pb_F (fun _ => True) H H1)) := by
  refine pb_ofWH (by decide +kernel) (Nat.le_of_ble_eq_true rfl) ?_
  intro p_ e_ s_ m_ ar_ bl_ me_ co_ ls C hh hG hl hT hN
  have hl : lv_has ls 6 [(0, .ref (b)), (1, .int (iZ (a1))), (2, .int (iZ (a2))), (3, .int (iZ (a3))), (4, .ref (oL))] := hl
  refine pb_aload C dX0_cornerX_0 (lv_at hl 4 rfl) ?_
  refine pb_ic C dX0_cornerX_2 ?_
  refine pb_aload_n C dX0_cornerX_3 rfl (lv_at hl 0 rfl) ?_
  refine pb_iload_n C dX0_cornerX_4 rfl (lv_at hl 1 rfl) ?_
  refine pb_iload_n C dX0_cornerX_5 rfl (lv_at hl 2 rfl) ?_
  refine pb_iload_n C dX0_cornerX_6 rfl (lv_at hl 3 rfl) ?_
  refine pb_catch (bc' := mc - mc) (bs' := ms - ms) C (pb_runVX (rest := [.int (iZ (0)), .ref (oL)]) C hG (hM) hBo (ci := 0) rfl (lw_V q1606 q1607 q1608 q51 q1609) ⟨rfl, hdX1_cornerX⟩ rfl hl.1 rfl (Nat.le_of_ble_eq_true rfl) ⟨show dd + 1 ≤ 15 from by omega, show 8 + (4 + 11) + 64 * dd ≤ 64 * 15 from by omega⟩ dX0_cornerX_7) (by omega) (by omega) [] ⟨0, 12, 15, 13⟩ [⟨0, 12, 19, 64⟩] hT (fun z9 h9 => absurd h9 List.not_mem_nil) (by decide) (by decide) q241 q337 fun q9 H1 hF1 => ?_
  refine pb_astore C dX0_cornerX_15 hl (by decide) rfl fun ls hl => ?_
  have hl : lv_has ls 6 [(5, .ref (q9)), (0, .ref (b)), (1, .int (iZ (a1))), (2, .int (iZ (a2))), (3, .int (iZ (a3))), (4, .ref (oL))] := hl
  refine pb_ic C dX0_cornerX_17 ?_
  exact pb_iret C dX0_cornerX_18 (⟨_, rfl, rfl, hF1⟩)

set_option maxHeartbeats 1000000 in
theorem mex_X0_cornerX_2 {w : pb_W} (l : Launch) {H : Heap} (b oL : Nat) (fs : List Value) (hBo : pb_R w H b 0 fs) (a1 : Int) (a2 : Int) (a3 : Int) (dd mc ms : Nat) (hd : dd ≤ 14) (hM : pb_X w l yX1_cornerX cX1_cornerX 4 (some .int) dd mc ms [.ref b, .int (iZ a1), .int (iZ a2), .int (iZ a3)] H RJ16) : pb_MW w l yX0_cornerX cX0_cornerX 6 (some .int) [(0, 12, 15, 13), (0, 12, 19, 64)] 15 (mc) (ms) [.ref (b), .int (iZ (a1)), .int (iZ (a2)), .int (iZ (a3)), .ref (oL)] H (pb_qi (fun k H1 => k = 2 ∧ pb_F (fun _ => True) H H1)) := by
  refine pb_ofWH (by decide +kernel) (Nat.le_of_ble_eq_true rfl) ?_
  intro p_ e_ s_ m_ ar_ bl_ me_ co_ ls C hh hG hl hT hN
  have hl : lv_has ls 6 [(0, .ref (b)), (1, .int (iZ (a1))), (2, .int (iZ (a2))), (3, .int (iZ (a3))), (4, .ref (oL))] := hl
  refine pb_aload C dX0_cornerX_0 (lv_at hl 4 rfl) ?_
  refine pb_ic C dX0_cornerX_2 ?_
  refine pb_aload_n C dX0_cornerX_3 rfl (lv_at hl 0 rfl) ?_
  refine pb_iload_n C dX0_cornerX_4 rfl (lv_at hl 1 rfl) ?_
  refine pb_iload_n C dX0_cornerX_5 rfl (lv_at hl 2 rfl) ?_
  refine pb_iload_n C dX0_cornerX_6 rfl (lv_at hl 3 rfl) ?_
  refine pb_catch (bc' := mc - mc) (bs' := ms - ms) C (pb_runVX (rest := [.int (iZ (0)), .ref (oL)]) C hG (hM) hBo (ci := 0) rfl (lw_V q1606 q1607 q1608 q51 q1609) ⟨rfl, hdX1_cornerX⟩ rfl hl.1 rfl (Nat.le_of_ble_eq_true rfl) ⟨show dd + 1 ≤ 15 from by omega, show 8 + (4 + 11) + 64 * dd ≤ 64 * 15 from by omega⟩ dX0_cornerX_7) (by omega) (by omega) [⟨0, 12, 15, 13⟩] ⟨0, 12, 19, 64⟩ [] hT (List.forall_mem_cons.mpr ⟨⟨by decide, "java/lang/IndexOutOfBoundsException", q241, hN ("java/util/NoSuchElementException", "java/lang/IndexOutOfBoundsException") (by decide)⟩, (fun z9 h9 => absurd h9 List.not_mem_nil)⟩) (by decide) (by decide) q1045 q572 fun q9 H1 hF1 => ?_
  refine pb_astore C dX0_cornerX_19 hl (by decide) rfl fun ls hl => ?_
  have hl : lv_has ls 6 [(5, .ref (q9)), (0, .ref (b)), (1, .int (iZ (a1))), (2, .int (iZ (a2))), (3, .int (iZ (a3))), (4, .ref (oL))] := hl
  refine pb_ic C dX0_cornerX_21 ?_
  exact pb_iret C dX0_cornerX_22 (⟨_, rfl, rfl, hF1⟩)

set_option maxHeartbeats 1000000 in
theorem met_X0_cornerY {w : pb_W} (l : Launch) {H : Heap} (b oL : Nat) (fs : List Value) (hBo : pb_R w H b 0 fs) (a1 : Int) (a2 : Int) (a3 : Int) (dd mc ms : Nat) (post : Int → Heap → Prop) (g0 : Nat → Value) (hd : dd ≤ 14) (hM : pb_M w l yX1_cornerY cX1_cornerY 4 (some .int) dd mc ms [.ref b, .int (iZ a1), .int (iZ a2), .int (iZ a3)] H (pb_qi post)) (hk : ∀ z H1, post z H1 → pb_F (fun q => q < w.2.2.2) H H1 ∧ H1[oL]? = H[oL]? ∧ -2147483648 ≤ z ∧ z ≤ 2147483647) (hA : pb_A w H oL 2 1 g0) (hz : w.2.2.2 ≤ oL) : pb_MW w l yX0_cornerY cX0_cornerY 6 (some .int) [(0, 12, 15, 13), (0, 12, 19, 64)] 15 (mc) (ms) [.ref (b), .int (iZ (a1)), .int (iZ (a2)), .int (iZ (a3)), .ref (oL)] H (pb_qi (fun k H2 => k = 0 ∧ ∃ z H1 g, post z H1 ∧ pb_A w H2 oL 2 1 (updV g 0 (.long (lZ z))) ∧ pb_Up oL H1 H2)) := by
  refine pb_ofWH (by decide +kernel) (Nat.le_of_ble_eq_true rfl) ?_
  intro p_ e_ s_ m_ ar_ bl_ me_ co_ ls C hh hG hl hT hN
  have hl : lv_has ls 6 [(0, .ref (b)), (1, .int (iZ (a1))), (2, .int (iZ (a2))), (3, .int (iZ (a3))), (4, .ref (oL))] := hl
  refine pb_aload C dX0_cornerY_0 (lv_at hl 4 rfl) ?_
  refine pb_ic C dX0_cornerY_2 ?_
  refine pb_aload_n C dX0_cornerY_3 rfl (lv_at hl 0 rfl) ?_
  refine pb_iload_n C dX0_cornerY_4 rfl (lv_at hl 1 rfl) ?_
  refine pb_iload_n C dX0_cornerY_5 rfl (lv_at hl 2 rfl) ?_
  refine pb_iload_n C dX0_cornerY_6 rfl (lv_at hl 3 rfl) ?_
  refine pb_go_i (bc' := mc - mc) (bs' := ms - ms) (pb_runV (rest := [.int (iZ (0)), .ref (oL)]) C hG (hM) hBo (ci := 0) rfl (lw_V q1617 q1618 q1619 q51 q1620) ⟨rfl, hdX1_cornerY⟩ rfl hl.1 rfl (Nat.le_of_ble_eq_true rfl) ⟨show dd + 1 ≤ 15 from by omega, show 8 + (4 + 11) + 64 * dd ≤ 64 * 15 from by omega⟩ dX0_cornerY_7) (by omega) (by omega) (fun z_ H1 hp_ => ?_)
  obtain ⟨hF1, ho1, hzr⟩ := hk _ _ hp_
  have hG := hG.kept hF1
  have hA := hA.kept ho1
  refine pb_i2l C dX0_cornerY_10 (x := z_) (by omega) ?_
  refine pb_last C hA (i := 0) (by omega) (by omega) dX0_cornerY_11 fun H1_ hu_ hA => ?_
  have hG := hG.kept (hu_.z (by omega))
  refine pb_goto C dX0_cornerY_12 (tgt := 23) (by decide) ?_
  refine pb_ic C dX0_cornerY_23 ?_
  exact pb_iret C dX0_cornerY_24 (⟨_, rfl, rfl, _, _, _, hp_, hA, hu_⟩)

set_option maxHeartbeats 1000000 in
theorem mex_X0_cornerY_1 {w : pb_W} (l : Launch) {H : Heap} (b oL : Nat) (fs : List Value) (hBo : pb_R w H b 0 fs) (a1 : Int) (a2 : Int) (a3 : Int) (dd mc ms : Nat) (hd : dd ≤ 14) (hM : pb_X w l yX1_cornerY cX1_cornerY 4 (some .int) dd mc ms [.ref b, .int (iZ a1), .int (iZ a2), .int (iZ a3)] H RJ9) : pb_MW w l yX0_cornerY cX0_cornerY 6 (some .int) [(0, 12, 15, 13), (0, 12, 19, 64)] 15 (mc) (ms) [.ref (b), .int (iZ (a1)), .int (iZ (a2)), .int (iZ (a3)), .ref (oL)] H (pb_qi (fun k H1 => k = 1 ∧ pb_F (fun _ => True) H H1)) := by
  refine pb_ofWH (by decide +kernel) (Nat.le_of_ble_eq_true rfl) ?_
  intro p_ e_ s_ m_ ar_ bl_ me_ co_ ls C hh hG hl hT hN
  have hl : lv_has ls 6 [(0, .ref (b)), (1, .int (iZ (a1))), (2, .int (iZ (a2))), (3, .int (iZ (a3))), (4, .ref (oL))] := hl
  refine pb_aload C dX0_cornerY_0 (lv_at hl 4 rfl) ?_
  refine pb_ic C dX0_cornerY_2 ?_
  refine pb_aload_n C dX0_cornerY_3 rfl (lv_at hl 0 rfl) ?_
  refine pb_iload_n C dX0_cornerY_4 rfl (lv_at hl 1 rfl) ?_
  refine pb_iload_n C dX0_cornerY_5 rfl (lv_at hl 2 rfl) ?_
  refine pb_iload_n C dX0_cornerY_6 rfl (lv_at hl 3 rfl) ?_
  refine pb_catch (bc' := mc - mc) (bs' := ms - ms) C (pb_runVX (rest := [.int (iZ (0)), .ref (oL)]) C hG (hM) hBo (ci := 0) rfl (lw_V q1617 q1618 q1619 q51 q1620) ⟨rfl, hdX1_cornerY⟩ rfl hl.1 rfl (Nat.le_of_ble_eq_true rfl) ⟨show dd + 1 ≤ 15 from by omega, show 8 + (4 + 11) + 64 * dd ≤ 64 * 15 from by omega⟩ dX0_cornerY_7) (by omega) (by omega) [] ⟨0, 12, 15, 13⟩ [⟨0, 12, 19, 64⟩] hT (fun z9 h9 => absurd h9 List.not_mem_nil) (by decide) (by decide) q241 q337 fun q9 H1 hF1 => ?_
  refine pb_astore C dX0_cornerY_15 hl (by decide) rfl fun ls hl => ?_
  have hl : lv_has ls 6 [(5, .ref (q9)), (0, .ref (b)), (1, .int (iZ (a1))), (2, .int (iZ (a2))), (3, .int (iZ (a3))), (4, .ref (oL))] := hl
  refine pb_ic C dX0_cornerY_17 ?_
  exact pb_iret C dX0_cornerY_18 (⟨_, rfl, rfl, hF1⟩)

set_option maxHeartbeats 1000000 in
theorem mex_X0_cornerY_2 {w : pb_W} (l : Launch) {H : Heap} (b oL : Nat) (fs : List Value) (hBo : pb_R w H b 0 fs) (a1 : Int) (a2 : Int) (a3 : Int) (dd mc ms : Nat) (hd : dd ≤ 14) (hM : pb_X w l yX1_cornerY cX1_cornerY 4 (some .int) dd mc ms [.ref b, .int (iZ a1), .int (iZ a2), .int (iZ a3)] H RJ16) : pb_MW w l yX0_cornerY cX0_cornerY 6 (some .int) [(0, 12, 15, 13), (0, 12, 19, 64)] 15 (mc) (ms) [.ref (b), .int (iZ (a1)), .int (iZ (a2)), .int (iZ (a3)), .ref (oL)] H (pb_qi (fun k H1 => k = 2 ∧ pb_F (fun _ => True) H H1)) := by
  refine pb_ofWH (by decide +kernel) (Nat.le_of_ble_eq_true rfl) ?_
  intro p_ e_ s_ m_ ar_ bl_ me_ co_ ls C hh hG hl hT hN
  have hl : lv_has ls 6 [(0, .ref (b)), (1, .int (iZ (a1))), (2, .int (iZ (a2))), (3, .int (iZ (a3))), (4, .ref (oL))] := hl
  refine pb_aload C dX0_cornerY_0 (lv_at hl 4 rfl) ?_
  refine pb_ic C dX0_cornerY_2 ?_
  refine pb_aload_n C dX0_cornerY_3 rfl (lv_at hl 0 rfl) ?_
  refine pb_iload_n C dX0_cornerY_4 rfl (lv_at hl 1 rfl) ?_
  refine pb_iload_n C dX0_cornerY_5 rfl (lv_at hl 2 rfl) ?_
  refine pb_iload_n C dX0_cornerY_6 rfl (lv_at hl 3 rfl) ?_
  refine pb_catch (bc' := mc - mc) (bs' := ms - ms) C (pb_runVX (rest := [.int (iZ (0)), .ref (oL)]) C hG (hM) hBo (ci := 0) rfl (lw_V q1617 q1618 q1619 q51 q1620) ⟨rfl, hdX1_cornerY⟩ rfl hl.1 rfl (Nat.le_of_ble_eq_true rfl) ⟨show dd + 1 ≤ 15 from by omega, show 8 + (4 + 11) + 64 * dd ≤ 64 * 15 from by omega⟩ dX0_cornerY_7) (by omega) (by omega) [⟨0, 12, 15, 13⟩] ⟨0, 12, 19, 64⟩ [] hT (List.forall_mem_cons.mpr ⟨⟨by decide, "java/lang/IndexOutOfBoundsException", q241, hN ("java/util/NoSuchElementException", "java/lang/IndexOutOfBoundsException") (by decide)⟩, (fun z9 h9 => absurd h9 List.not_mem_nil)⟩) (by decide) (by decide) q1045 q572 fun q9 H1 hF1 => ?_
  refine pb_astore C dX0_cornerY_19 hl (by decide) rfl fun ls hl => ?_
  have hl : lv_has ls 6 [(5, .ref (q9)), (0, .ref (b)), (1, .int (iZ (a1))), (2, .int (iZ (a2))), (3, .int (iZ (a3))), (4, .ref (oL))] := hl
  refine pb_ic C dX0_cornerY_21 ?_
  exact pb_iret C dX0_cornerY_22 (⟨_, rfl, rfl, hF1⟩)

set_option maxHeartbeats 1000000 in
theorem met_X0_signedArea {w : pb_W} (l : Launch) {H : Heap} (b oL : Nat) (fs : List Value) (hBo : pb_R w H b 0 fs) (a1 : Int) (a2 : Int) (dd mc ms : Nat) (post : Int → Heap → Prop) (g0 : Nat → Value) (hd : dd ≤ 14) (hM : pb_M w l yX1_signedArea cX1_signedArea 3 (some .int) dd mc ms [.ref b, .int (iZ a1), .int (iZ a2)] H (pb_qi post)) (hk : ∀ z H1, post z H1 → pb_F (fun q => q < w.2.2.2) H H1 ∧ H1[oL]? = H[oL]? ∧ -2147483648 ≤ z ∧ z ≤ 2147483647) (hA : pb_A w H oL 2 1 g0) (hz : w.2.2.2 ≤ oL) : pb_MW w l yX0_signedArea cX0_signedArea 5 (some .int) [(0, 10, 13, 13), (0, 10, 17, 64)] 15 (mc) (ms) [.ref (b), .int (iZ (a1)), .int (iZ (a2)), .ref (oL)] H (pb_qi (fun k H2 => k = 0 ∧ ∃ z H1 g, post z H1 ∧ pb_A w H2 oL 2 1 (updV g 0 (.long (lZ z))) ∧ pb_Up oL H1 H2)) := by
  refine pb_ofWH (by decide +kernel) (Nat.le_of_ble_eq_true rfl) ?_
  intro p_ e_ s_ m_ ar_ bl_ me_ co_ ls C hh hG hl hT hN
  have hl : lv_has ls 5 [(0, .ref (b)), (1, .int (iZ (a1))), (2, .int (iZ (a2))), (3, .ref (oL))] := hl
  refine pb_aload_n C dX0_signedArea_0 rfl (lv_at hl 3 rfl) ?_
  refine pb_ic C dX0_signedArea_1 ?_
  refine pb_aload_n C dX0_signedArea_2 rfl (lv_at hl 0 rfl) ?_
  refine pb_iload_n C dX0_signedArea_3 rfl (lv_at hl 1 rfl) ?_
  refine pb_iload_n C dX0_signedArea_4 rfl (lv_at hl 2 rfl) ?_
  refine pb_go_i (bc' := mc - mc) (bs' := ms - ms) (pb_runV (rest := [.int (iZ (0)), .ref (oL)]) C hG (hM) hBo (ci := 0) rfl (lw_V q1624 q1625 q1626 q51 q1627) ⟨rfl, hdX1_signedArea⟩ rfl hl.1 rfl (Nat.le_of_ble_eq_true rfl) ⟨show dd + 1 ≤ 15 from by omega, show 8 + (3 + 11) + 64 * dd ≤ 64 * 15 from by omega⟩ dX0_signedArea_5) (by omega) (by omega) (fun z_ H1 hp_ => ?_)
  obtain ⟨hF1, ho1, hzr⟩ := hk _ _ hp_
  have hG := hG.kept hF1
  have hA := hA.kept ho1
  refine pb_i2l C dX0_signedArea_8 (x := z_) (by omega) ?_
  refine pb_last C hA (i := 0) (by omega) (by omega) dX0_signedArea_9 fun H1_ hu_ hA => ?_
  have hG := hG.kept (hu_.z (by omega))
  refine pb_goto C dX0_signedArea_10 (tgt := 21) (by decide) ?_
  refine pb_ic C dX0_signedArea_21 ?_
  exact pb_iret C dX0_signedArea_22 (⟨_, rfl, rfl, _, _, _, hp_, hA, hu_⟩)

set_option maxHeartbeats 1000000 in
theorem mex_X0_signedArea_1 {w : pb_W} (l : Launch) {H : Heap} (b oL : Nat) (fs : List Value) (hBo : pb_R w H b 0 fs) (a1 : Int) (a2 : Int) (dd mc ms : Nat) (hd : dd ≤ 14) (hM : pb_X w l yX1_signedArea cX1_signedArea 3 (some .int) dd mc ms [.ref b, .int (iZ a1), .int (iZ a2)] H RJ9) : pb_MW w l yX0_signedArea cX0_signedArea 5 (some .int) [(0, 10, 13, 13), (0, 10, 17, 64)] 15 (mc) (ms) [.ref (b), .int (iZ (a1)), .int (iZ (a2)), .ref (oL)] H (pb_qi (fun k H1 => k = 1 ∧ pb_F (fun _ => True) H H1)) := by
  refine pb_ofWH (by decide +kernel) (Nat.le_of_ble_eq_true rfl) ?_
  intro p_ e_ s_ m_ ar_ bl_ me_ co_ ls C hh hG hl hT hN
  have hl : lv_has ls 5 [(0, .ref (b)), (1, .int (iZ (a1))), (2, .int (iZ (a2))), (3, .ref (oL))] := hl
  refine pb_aload_n C dX0_signedArea_0 rfl (lv_at hl 3 rfl) ?_
  refine pb_ic C dX0_signedArea_1 ?_
  refine pb_aload_n C dX0_signedArea_2 rfl (lv_at hl 0 rfl) ?_
  refine pb_iload_n C dX0_signedArea_3 rfl (lv_at hl 1 rfl) ?_
  refine pb_iload_n C dX0_signedArea_4 rfl (lv_at hl 2 rfl) ?_
  refine pb_catch (bc' := mc - mc) (bs' := ms - ms) C (pb_runVX (rest := [.int (iZ (0)), .ref (oL)]) C hG (hM) hBo (ci := 0) rfl (lw_V q1624 q1625 q1626 q51 q1627) ⟨rfl, hdX1_signedArea⟩ rfl hl.1 rfl (Nat.le_of_ble_eq_true rfl) ⟨show dd + 1 ≤ 15 from by omega, show 8 + (3 + 11) + 64 * dd ≤ 64 * 15 from by omega⟩ dX0_signedArea_5) (by omega) (by omega) [] ⟨0, 10, 13, 13⟩ [⟨0, 10, 17, 64⟩] hT (fun z9 h9 => absurd h9 List.not_mem_nil) (by decide) (by decide) q241 q337 fun q9 H1 hF1 => ?_
  refine pb_astore C dX0_signedArea_13 hl (by decide) rfl fun ls hl => ?_
  have hl : lv_has ls 5 [(4, .ref (q9)), (0, .ref (b)), (1, .int (iZ (a1))), (2, .int (iZ (a2))), (3, .ref (oL))] := hl
  refine pb_ic C dX0_signedArea_15 ?_
  exact pb_iret C dX0_signedArea_16 (⟨_, rfl, rfl, hF1⟩)

set_option maxHeartbeats 1000000 in
theorem mex_X0_signedArea_2 {w : pb_W} (l : Launch) {H : Heap} (b oL : Nat) (fs : List Value) (hBo : pb_R w H b 0 fs) (a1 : Int) (a2 : Int) (dd mc ms : Nat) (hd : dd ≤ 14) (hM : pb_X w l yX1_signedArea cX1_signedArea 3 (some .int) dd mc ms [.ref b, .int (iZ a1), .int (iZ a2)] H RJ16) : pb_MW w l yX0_signedArea cX0_signedArea 5 (some .int) [(0, 10, 13, 13), (0, 10, 17, 64)] 15 (mc) (ms) [.ref (b), .int (iZ (a1)), .int (iZ (a2)), .ref (oL)] H (pb_qi (fun k H1 => k = 2 ∧ pb_F (fun _ => True) H H1)) := by
  refine pb_ofWH (by decide +kernel) (Nat.le_of_ble_eq_true rfl) ?_
  intro p_ e_ s_ m_ ar_ bl_ me_ co_ ls C hh hG hl hT hN
  have hl : lv_has ls 5 [(0, .ref (b)), (1, .int (iZ (a1))), (2, .int (iZ (a2))), (3, .ref (oL))] := hl
  refine pb_aload_n C dX0_signedArea_0 rfl (lv_at hl 3 rfl) ?_
  refine pb_ic C dX0_signedArea_1 ?_
  refine pb_aload_n C dX0_signedArea_2 rfl (lv_at hl 0 rfl) ?_
  refine pb_iload_n C dX0_signedArea_3 rfl (lv_at hl 1 rfl) ?_
  refine pb_iload_n C dX0_signedArea_4 rfl (lv_at hl 2 rfl) ?_
  refine pb_catch (bc' := mc - mc) (bs' := ms - ms) C (pb_runVX (rest := [.int (iZ (0)), .ref (oL)]) C hG (hM) hBo (ci := 0) rfl (lw_V q1624 q1625 q1626 q51 q1627) ⟨rfl, hdX1_signedArea⟩ rfl hl.1 rfl (Nat.le_of_ble_eq_true rfl) ⟨show dd + 1 ≤ 15 from by omega, show 8 + (3 + 11) + 64 * dd ≤ 64 * 15 from by omega⟩ dX0_signedArea_5) (by omega) (by omega) [⟨0, 10, 13, 13⟩] ⟨0, 10, 17, 64⟩ [] hT (List.forall_mem_cons.mpr ⟨⟨by decide, "java/lang/IndexOutOfBoundsException", q241, hN ("java/util/NoSuchElementException", "java/lang/IndexOutOfBoundsException") (by decide)⟩, (fun z9 h9 => absurd h9 List.not_mem_nil)⟩) (by decide) (by decide) q1045 q572 fun q9 H1 hF1 => ?_
  refine pb_astore C dX0_signedArea_17 hl (by decide) rfl fun ls hl => ?_
  have hl : lv_has ls 5 [(4, .ref (q9)), (0, .ref (b)), (1, .int (iZ (a1))), (2, .int (iZ (a2))), (3, .ref (oL))] := hl
  refine pb_ic C dX0_signedArea_19 ?_
  exact pb_iret C dX0_signedArea_20 (⟨_, rfl, rfl, hF1⟩)

set_option maxHeartbeats 1000000 in
theorem met_X0_moment {w : pb_W} (l : Launch) {H : Heap} (b oL : Nat) (fs : List Value) (hBo : pb_R w H b 0 fs) (a1 : Int) (dd mc ms : Nat) (post : Int → Heap → Prop) (g0 : Nat → Value) (hd : dd ≤ 14) (hM : pb_M w l yX1_moment cX1_moment 3 (some .long) dd mc ms [.ref b, .int (iZ a1)] H (pb_ql post)) (hk : ∀ z H1, post z H1 → pb_F (fun q => q < w.2.2.2) H H1 ∧ H1[oL]? = H[oL]? ∧ True) (hA : pb_A w H oL 2 1 g0) (hz : w.2.2.2 ≤ oL) : pb_MW w l yX0_moment cX0_moment 4 (some .int) [(0, 8, 11, 13)] 15 (mc) (ms) [.ref (b), .int (iZ (a1)), .ref (oL)] H (pb_qi (fun k H2 => k = 0 ∧ ∃ z H1 g, post z H1 ∧ pb_A w H2 oL 2 1 (updV g 0 (.long (lZ z))) ∧ pb_Up oL H1 H2)) := by
  refine pb_ofWH (by decide +kernel) (Nat.le_of_ble_eq_true rfl) ?_
  intro p_ e_ s_ m_ ar_ bl_ me_ co_ ls C hh hG hl hT hN
  have hl : lv_has ls 4 [(0, .ref (b)), (1, .int (iZ (a1))), (2, .ref (oL))] := hl
  refine pb_aload_n C dX0_moment_0 rfl (lv_at hl 2 rfl) ?_
  refine pb_ic C dX0_moment_1 ?_
  refine pb_aload_n C dX0_moment_2 rfl (lv_at hl 0 rfl) ?_
  refine pb_iload_n C dX0_moment_3 rfl (lv_at hl 1 rfl) ?_
  refine pb_go_l (bc' := mc - mc) (bs' := ms - ms) (pb_runV (rest := [.int (iZ (0)), .ref (oL)]) C hG (hM) hBo (ci := 0) rfl (lw_V q1631 q1632 q1633 q51 q1634) ⟨rfl, hdX1_moment⟩ rfl hl.1 rfl (Nat.le_of_ble_eq_true rfl) ⟨show dd + 1 ≤ 15 from by omega, show 8 + (3 + 11) + 64 * dd ≤ 64 * 15 from by omega⟩ dX0_moment_4) (by omega) (by omega) (fun z_ H1 hp_ => ?_)
  obtain ⟨hF1, ho1, hzr⟩ := hk _ _ hp_
  have hG := hG.kept hF1
  have hA := hA.kept ho1
  refine pb_last C hA (i := 0) (by omega) (by omega) dX0_moment_7 fun H1_ hu_ hA => ?_
  have hG := hG.kept (hu_.z (by omega))
  refine pb_goto C dX0_moment_8 (tgt := 14) (by decide) ?_
  refine pb_ic C dX0_moment_14 ?_
  exact pb_iret C dX0_moment_15 (⟨_, rfl, rfl, _, _, _, hp_, hA, hu_⟩)

set_option maxHeartbeats 1000000 in
theorem mex_X0_moment_1 {w : pb_W} (l : Launch) {H : Heap} (b oL : Nat) (fs : List Value) (hBo : pb_R w H b 0 fs) (a1 : Int) (dd mc ms : Nat) (hd : dd ≤ 14) (hM : pb_X w l yX1_moment cX1_moment 3 (some .long) dd mc ms [.ref b, .int (iZ a1)] H RJ9) : pb_MW w l yX0_moment cX0_moment 4 (some .int) [(0, 8, 11, 13)] 15 (mc) (ms) [.ref (b), .int (iZ (a1)), .ref (oL)] H (pb_qi (fun k H1 => k = 1 ∧ pb_F (fun _ => True) H H1)) := by
  refine pb_ofWH (by decide +kernel) (Nat.le_of_ble_eq_true rfl) ?_
  intro p_ e_ s_ m_ ar_ bl_ me_ co_ ls C hh hG hl hT hN
  have hl : lv_has ls 4 [(0, .ref (b)), (1, .int (iZ (a1))), (2, .ref (oL))] := hl
  refine pb_aload_n C dX0_moment_0 rfl (lv_at hl 2 rfl) ?_
  refine pb_ic C dX0_moment_1 ?_
  refine pb_aload_n C dX0_moment_2 rfl (lv_at hl 0 rfl) ?_
  refine pb_iload_n C dX0_moment_3 rfl (lv_at hl 1 rfl) ?_
  refine pb_catch (bc' := mc - mc) (bs' := ms - ms) C (pb_runVX (rest := [.int (iZ (0)), .ref (oL)]) C hG (hM) hBo (ci := 0) rfl (lw_V q1631 q1632 q1633 q51 q1634) ⟨rfl, hdX1_moment⟩ rfl hl.1 rfl (Nat.le_of_ble_eq_true rfl) ⟨show dd + 1 ≤ 15 from by omega, show 8 + (3 + 11) + 64 * dd ≤ 64 * 15 from by omega⟩ dX0_moment_4) (by omega) (by omega) [] ⟨0, 8, 11, 13⟩ [] hT (fun z9 h9 => absurd h9 List.not_mem_nil) (by decide) (by decide) q241 q337 fun q9 H1 hF1 => ?_
  refine pb_astore_n C dX0_moment_11 rfl hl (by decide) rfl fun ls hl => ?_
  have hl : lv_has ls 4 [(3, .ref (q9)), (0, .ref (b)), (1, .int (iZ (a1))), (2, .ref (oL))] := hl
  refine pb_ic C dX0_moment_12 ?_
  exact pb_iret C dX0_moment_13 (⟨_, rfl, rfl, hF1⟩)

set_option maxHeartbeats 1000000 in
theorem met_X0_momentByCells {w : pb_W} (l : Launch) {H : Heap} (b oL : Nat) (fs : List Value) (hBo : pb_R w H b 0 fs) (a1 : Int) (dd mc ms : Nat) (post : Int → Heap → Prop) (g0 : Nat → Value) (hd : dd ≤ 14) (hM : pb_M w l yX1_momentByCells cX1_momentByCells 2 (some .long) dd mc ms [.ref b, .int (iZ a1)] H (pb_ql post)) (hk : ∀ z H1, post z H1 → pb_F (fun q => q < w.2.2.2) H H1 ∧ H1[oL]? = H[oL]? ∧ True) (hA : pb_A w H oL 2 1 g0) (hz : w.2.2.2 ≤ oL) : pb_MW w l yX0_momentByCells cX0_momentByCells 4 (some .int) [(0, 8, 11, 13)] 15 (mc) (ms) [.ref (b), .int (iZ (a1)), .ref (oL)] H (pb_qi (fun k H2 => k = 0 ∧ ∃ z H1 g, post z H1 ∧ pb_A w H2 oL 2 1 (updV g 0 (.long (lZ z))) ∧ pb_Up oL H1 H2)) := by
  refine pb_ofWH (by decide +kernel) (Nat.le_of_ble_eq_true rfl) ?_
  intro p_ e_ s_ m_ ar_ bl_ me_ co_ ls C hh hG hl hT hN
  have hl : lv_has ls 4 [(0, .ref (b)), (1, .int (iZ (a1))), (2, .ref (oL))] := hl
  refine pb_aload_n C dX0_momentByCells_0 rfl (lv_at hl 2 rfl) ?_
  refine pb_ic C dX0_momentByCells_1 ?_
  refine pb_aload_n C dX0_momentByCells_2 rfl (lv_at hl 0 rfl) ?_
  refine pb_iload_n C dX0_momentByCells_3 rfl (lv_at hl 1 rfl) ?_
  refine pb_go_l (bc' := mc - mc) (bs' := ms - ms) (pb_runV (rest := [.int (iZ (0)), .ref (oL)]) C hG (hM) hBo (ci := 0) rfl (lw_V q1652 q1653 q1654 q51 q1655) ⟨rfl, hdX1_momentByCells⟩ rfl hl.1 rfl (Nat.le_of_ble_eq_true rfl) ⟨show dd + 1 ≤ 15 from by omega, show 8 + (2 + 11) + 64 * dd ≤ 64 * 15 from by omega⟩ dX0_momentByCells_4) (by omega) (by omega) (fun z_ H1 hp_ => ?_)
  obtain ⟨hF1, ho1, hzr⟩ := hk _ _ hp_
  have hG := hG.kept hF1
  have hA := hA.kept ho1
  refine pb_last C hA (i := 0) (by omega) (by omega) dX0_momentByCells_7 fun H1_ hu_ hA => ?_
  have hG := hG.kept (hu_.z (by omega))
  refine pb_goto C dX0_momentByCells_8 (tgt := 14) (by decide) ?_
  refine pb_ic C dX0_momentByCells_14 ?_
  exact pb_iret C dX0_momentByCells_15 (⟨_, rfl, rfl, _, _, _, hp_, hA, hu_⟩)

set_option maxHeartbeats 1000000 in
theorem mex_X0_momentByCells_1 {w : pb_W} (l : Launch) {H : Heap} (b oL : Nat) (fs : List Value) (hBo : pb_R w H b 0 fs) (a1 : Int) (dd mc ms : Nat) (hd : dd ≤ 14) (hM : pb_X w l yX1_momentByCells cX1_momentByCells 2 (some .long) dd mc ms [.ref b, .int (iZ a1)] H RJ9) : pb_MW w l yX0_momentByCells cX0_momentByCells 4 (some .int) [(0, 8, 11, 13)] 15 (mc) (ms) [.ref (b), .int (iZ (a1)), .ref (oL)] H (pb_qi (fun k H1 => k = 1 ∧ pb_F (fun _ => True) H H1)) := by
  refine pb_ofWH (by decide +kernel) (Nat.le_of_ble_eq_true rfl) ?_
  intro p_ e_ s_ m_ ar_ bl_ me_ co_ ls C hh hG hl hT hN
  have hl : lv_has ls 4 [(0, .ref (b)), (1, .int (iZ (a1))), (2, .ref (oL))] := hl
  refine pb_aload_n C dX0_momentByCells_0 rfl (lv_at hl 2 rfl) ?_
  refine pb_ic C dX0_momentByCells_1 ?_
  refine pb_aload_n C dX0_momentByCells_2 rfl (lv_at hl 0 rfl) ?_
  refine pb_iload_n C dX0_momentByCells_3 rfl (lv_at hl 1 rfl) ?_
  refine pb_catch (bc' := mc - mc) (bs' := ms - ms) C (pb_runVX (rest := [.int (iZ (0)), .ref (oL)]) C hG (hM) hBo (ci := 0) rfl (lw_V q1652 q1653 q1654 q51 q1655) ⟨rfl, hdX1_momentByCells⟩ rfl hl.1 rfl (Nat.le_of_ble_eq_true rfl) ⟨show dd + 1 ≤ 15 from by omega, show 8 + (2 + 11) + 64 * dd ≤ 64 * 15 from by omega⟩ dX0_momentByCells_4) (by omega) (by omega) [] ⟨0, 8, 11, 13⟩ [] hT (fun z9 h9 => absurd h9 List.not_mem_nil) (by decide) (by decide) q241 q337 fun q9 H1 hF1 => ?_
  refine pb_astore_n C dX0_momentByCells_11 rfl hl (by decide) rfl fun ls hl => ?_
  have hl : lv_has ls 4 [(3, .ref (q9)), (0, .ref (b)), (1, .int (iZ (a1))), (2, .ref (oL))] := hl
  refine pb_ic C dX0_momentByCells_12 ?_
  exact pb_iret C dX0_momentByCells_13 (⟨_, rfl, rfl, hF1⟩)

set_option maxHeartbeats 1000000 in
theorem met_X0_middleX {w : pb_W} (l : Launch) {H : Heap} (b oL : Nat) (fs : List Value) (hBo : pb_R w H b 0 fs) (a1 : Int) (dd mc ms : Nat) (post : Value → Heap → Prop) (g0 : Nat → Value) (hd : dd ≤ 14) (hM : pb_M w l yX1_middleX cX1_middleX 3 (some .double) dd mc ms [.ref b, .int (iZ a1)] H (pb_qq post)) (hk : ∀ z H1, post z H1 → pb_F (fun q => q < w.2.2.2) H H1 ∧ H1[oL]? = H[oL]? ∧ ∃ v, z = .double v) (hA : pb_A w H oL 3 1 g0) (hz : w.2.2.2 ≤ oL) : pb_MW w l yX0_middleX cX0_middleX 4 (some .int) [(0, 8, 11, 13), (0, 8, 14, 163)] 15 (mc) (ms) [.ref (b), .int (iZ (a1)), .ref (oL)] H (pb_qi (fun k H2 => k = 0 ∧ ∃ z H1 g v, post z H1 ∧ z = .double v ∧ pb_A w H2 oL 3 1 (updV g 0 (.double v)) ∧ pb_Up oL H1 H2)) := by
  refine pb_ofWH (by decide +kernel) (Nat.le_of_ble_eq_true rfl) ?_
  intro p_ e_ s_ m_ ar_ bl_ me_ co_ ls C hh hG hl hT hN
  have hl : lv_has ls 4 [(0, .ref (b)), (1, .int (iZ (a1))), (2, .ref (oL))] := hl
  refine pb_aload_n C dX0_middleX_0 rfl (lv_at hl 2 rfl) ?_
  refine pb_ic C dX0_middleX_1 ?_
  refine pb_aload_n C dX0_middleX_2 rfl (lv_at hl 0 rfl) ?_
  refine pb_iload_n C dX0_middleX_3 rfl (lv_at hl 1 rfl) ?_
  refine pb_go_q (bc' := mc - mc) (bs' := ms - ms) (pb_runV (rest := [.int (iZ (0)), .ref (oL)]) C hG (hM) hBo (ci := 0) rfl (lw_V q1677 q1678 q1679 q51 q1680) ⟨rfl, hdX1_middleX⟩ rfl hl.1 rfl (Nat.le_of_ble_eq_true rfl) ⟨show dd + 1 ≤ 15 from by omega, show 8 + (3 + 11) + 64 * dd ≤ 64 * 15 from by omega⟩ dX0_middleX_4) (by omega) (by omega) (fun z_ H1 hp_ => ?_)
  obtain ⟨hF1, ho1, hzr⟩ := hk _ _ hp_
  have hG := hG.kept hF1
  have hA := hA.kept ho1
  obtain ⟨v9, rfl⟩ := hzr
  refine pb_dast C hA (i := 0) (by omega) (by omega) dX0_middleX_7 fun H1_ hu_ hA => ?_
  have hG := hG.kept (hu_.z (by omega))
  refine pb_goto C dX0_middleX_8 (tgt := 17) (by decide) ?_
  refine pb_ic C dX0_middleX_17 ?_
  exact pb_iret C dX0_middleX_18 (⟨_, rfl, rfl, _, _, _, _, hp_, rfl, hA, hu_⟩)

set_option maxHeartbeats 1000000 in
theorem mex_X0_middleX_1 {w : pb_W} (l : Launch) {H : Heap} (b oL : Nat) (fs : List Value) (hBo : pb_R w H b 0 fs) (a1 : Int) (dd mc ms : Nat) (hd : dd ≤ 14) (hM : pb_X w l yX1_middleX cX1_middleX 3 (some .double) dd mc ms [.ref b, .int (iZ a1)] H RJ9) : pb_MW w l yX0_middleX cX0_middleX 4 (some .int) [(0, 8, 11, 13), (0, 8, 14, 163)] 15 (mc) (ms) [.ref (b), .int (iZ (a1)), .ref (oL)] H (pb_qi (fun k H1 => k = 1 ∧ pb_F (fun _ => True) H H1)) := by
  refine pb_ofWH (by decide +kernel) (Nat.le_of_ble_eq_true rfl) ?_
  intro p_ e_ s_ m_ ar_ bl_ me_ co_ ls C hh hG hl hT hN
  have hl : lv_has ls 4 [(0, .ref (b)), (1, .int (iZ (a1))), (2, .ref (oL))] := hl
  refine pb_aload_n C dX0_middleX_0 rfl (lv_at hl 2 rfl) ?_
  refine pb_ic C dX0_middleX_1 ?_
  refine pb_aload_n C dX0_middleX_2 rfl (lv_at hl 0 rfl) ?_
  refine pb_iload_n C dX0_middleX_3 rfl (lv_at hl 1 rfl) ?_
  refine pb_catch (bc' := mc - mc) (bs' := ms - ms) C (pb_runVX (rest := [.int (iZ (0)), .ref (oL)]) C hG (hM) hBo (ci := 0) rfl (lw_V q1677 q1678 q1679 q51 q1680) ⟨rfl, hdX1_middleX⟩ rfl hl.1 rfl (Nat.le_of_ble_eq_true rfl) ⟨show dd + 1 ≤ 15 from by omega, show 8 + (3 + 11) + 64 * dd ≤ 64 * 15 from by omega⟩ dX0_middleX_4) (by omega) (by omega) [] ⟨0, 8, 11, 13⟩ [⟨0, 8, 14, 163⟩] hT (fun z9 h9 => absurd h9 List.not_mem_nil) (by decide) (by decide) q241 q337 fun q9 H1 hF1 => ?_
  refine pb_astore_n C dX0_middleX_11 rfl hl (by decide) rfl fun ls hl => ?_
  have hl : lv_has ls 4 [(3, .ref (q9)), (0, .ref (b)), (1, .int (iZ (a1))), (2, .ref (oL))] := hl
  refine pb_ic C dX0_middleX_12 ?_
  exact pb_iret C dX0_middleX_13 (⟨_, rfl, rfl, hF1⟩)

set_option maxHeartbeats 1000000 in
theorem mex_X0_middleX_2 {w : pb_W} (l : Launch) {H : Heap} (b oL : Nat) (fs : List Value) (hBo : pb_R w H b 0 fs) (a1 : Int) (dd mc ms : Nat) (hd : dd ≤ 14) (hM : pb_X w l yX1_middleX cX1_middleX 3 (some .double) dd mc ms [.ref b, .int (iZ a1)] H RJ21) : pb_MW w l yX0_middleX cX0_middleX 4 (some .int) [(0, 8, 11, 13), (0, 8, 14, 163)] 15 (mc) (ms) [.ref (b), .int (iZ (a1)), .ref (oL)] H (pb_qi (fun k H1 => k = 2 ∧ pb_F (fun _ => True) H H1)) := by
  refine pb_ofWH (by decide +kernel) (Nat.le_of_ble_eq_true rfl) ?_
  intro p_ e_ s_ m_ ar_ bl_ me_ co_ ls C hh hG hl hT hN
  have hl : lv_has ls 4 [(0, .ref (b)), (1, .int (iZ (a1))), (2, .ref (oL))] := hl
  refine pb_aload_n C dX0_middleX_0 rfl (lv_at hl 2 rfl) ?_
  refine pb_ic C dX0_middleX_1 ?_
  refine pb_aload_n C dX0_middleX_2 rfl (lv_at hl 0 rfl) ?_
  refine pb_iload_n C dX0_middleX_3 rfl (lv_at hl 1 rfl) ?_
  refine pb_catch (bc' := mc - mc) (bs' := ms - ms) C (pb_runVX (rest := [.int (iZ (0)), .ref (oL)]) C hG (hM) hBo (ci := 0) rfl (lw_V q1677 q1678 q1679 q51 q1680) ⟨rfl, hdX1_middleX⟩ rfl hl.1 rfl (Nat.le_of_ble_eq_true rfl) ⟨show dd + 1 ≤ 15 from by omega, show 8 + (3 + 11) + 64 * dd ≤ 64 * 15 from by omega⟩ dX0_middleX_4) (by omega) (by omega) [⟨0, 8, 11, 13⟩] ⟨0, 8, 14, 163⟩ [] hT (List.forall_mem_cons.mpr ⟨⟨by decide, "java/lang/IndexOutOfBoundsException", q241, hN ("java/lang/ArithmeticException", "java/lang/IndexOutOfBoundsException") (by decide)⟩, (fun z9 h9 => absurd h9 List.not_mem_nil)⟩) (by decide) (by decide) q1663 q1675 fun q9 H1 hF1 => ?_
  refine pb_astore_n C dX0_middleX_14 rfl hl (by decide) rfl fun ls hl => ?_
  have hl : lv_has ls 4 [(3, .ref (q9)), (0, .ref (b)), (1, .int (iZ (a1))), (2, .ref (oL))] := hl
  refine pb_ic C dX0_middleX_15 ?_
  exact pb_iret C dX0_middleX_16 (⟨_, rfl, rfl, hF1⟩)

set_option maxHeartbeats 1000000 in
theorem met_X0_middleY {w : pb_W} (l : Launch) {H : Heap} (b oL : Nat) (fs : List Value) (hBo : pb_R w H b 0 fs) (a1 : Int) (dd mc ms : Nat) (post : Value → Heap → Prop) (g0 : Nat → Value) (hd : dd ≤ 14) (hM : pb_M w l yX1_middleY cX1_middleY 3 (some .double) dd mc ms [.ref b, .int (iZ a1)] H (pb_qq post)) (hk : ∀ z H1, post z H1 → pb_F (fun q => q < w.2.2.2) H H1 ∧ H1[oL]? = H[oL]? ∧ ∃ v, z = .double v) (hA : pb_A w H oL 3 1 g0) (hz : w.2.2.2 ≤ oL) : pb_MW w l yX0_middleY cX0_middleY 4 (some .int) [(0, 8, 11, 13), (0, 8, 14, 163)] 15 (mc) (ms) [.ref (b), .int (iZ (a1)), .ref (oL)] H (pb_qi (fun k H2 => k = 0 ∧ ∃ z H1 g v, post z H1 ∧ z = .double v ∧ pb_A w H2 oL 3 1 (updV g 0 (.double v)) ∧ pb_Up oL H1 H2)) := by
  refine pb_ofWH (by decide +kernel) (Nat.le_of_ble_eq_true rfl) ?_
  intro p_ e_ s_ m_ ar_ bl_ me_ co_ ls C hh hG hl hT hN
  have hl : lv_has ls 4 [(0, .ref (b)), (1, .int (iZ (a1))), (2, .ref (oL))] := hl
  refine pb_aload_n C dX0_middleY_0 rfl (lv_at hl 2 rfl) ?_
  refine pb_ic C dX0_middleY_1 ?_
  refine pb_aload_n C dX0_middleY_2 rfl (lv_at hl 0 rfl) ?_
  refine pb_iload_n C dX0_middleY_3 rfl (lv_at hl 1 rfl) ?_
  refine pb_go_q (bc' := mc - mc) (bs' := ms - ms) (pb_runV (rest := [.int (iZ (0)), .ref (oL)]) C hG (hM) hBo (ci := 0) rfl (lw_V q1720 q1721 q1722 q51 q1723) ⟨rfl, hdX1_middleY⟩ rfl hl.1 rfl (Nat.le_of_ble_eq_true rfl) ⟨show dd + 1 ≤ 15 from by omega, show 8 + (3 + 11) + 64 * dd ≤ 64 * 15 from by omega⟩ dX0_middleY_4) (by omega) (by omega) (fun z_ H1 hp_ => ?_)
  obtain ⟨hF1, ho1, hzr⟩ := hk _ _ hp_
  have hG := hG.kept hF1
  have hA := hA.kept ho1
  obtain ⟨v9, rfl⟩ := hzr
  refine pb_dast C hA (i := 0) (by omega) (by omega) dX0_middleY_7 fun H1_ hu_ hA => ?_
  have hG := hG.kept (hu_.z (by omega))
  refine pb_goto C dX0_middleY_8 (tgt := 17) (by decide) ?_
  refine pb_ic C dX0_middleY_17 ?_
  exact pb_iret C dX0_middleY_18 (⟨_, rfl, rfl, _, _, _, _, hp_, rfl, hA, hu_⟩)

set_option maxHeartbeats 1000000 in
theorem mex_X0_middleY_1 {w : pb_W} (l : Launch) {H : Heap} (b oL : Nat) (fs : List Value) (hBo : pb_R w H b 0 fs) (a1 : Int) (dd mc ms : Nat) (hd : dd ≤ 14) (hM : pb_X w l yX1_middleY cX1_middleY 3 (some .double) dd mc ms [.ref b, .int (iZ a1)] H RJ9) : pb_MW w l yX0_middleY cX0_middleY 4 (some .int) [(0, 8, 11, 13), (0, 8, 14, 163)] 15 (mc) (ms) [.ref (b), .int (iZ (a1)), .ref (oL)] H (pb_qi (fun k H1 => k = 1 ∧ pb_F (fun _ => True) H H1)) := by
  refine pb_ofWH (by decide +kernel) (Nat.le_of_ble_eq_true rfl) ?_
  intro p_ e_ s_ m_ ar_ bl_ me_ co_ ls C hh hG hl hT hN
  have hl : lv_has ls 4 [(0, .ref (b)), (1, .int (iZ (a1))), (2, .ref (oL))] := hl
  refine pb_aload_n C dX0_middleY_0 rfl (lv_at hl 2 rfl) ?_
  refine pb_ic C dX0_middleY_1 ?_
  refine pb_aload_n C dX0_middleY_2 rfl (lv_at hl 0 rfl) ?_
  refine pb_iload_n C dX0_middleY_3 rfl (lv_at hl 1 rfl) ?_
  refine pb_catch (bc' := mc - mc) (bs' := ms - ms) C (pb_runVX (rest := [.int (iZ (0)), .ref (oL)]) C hG (hM) hBo (ci := 0) rfl (lw_V q1720 q1721 q1722 q51 q1723) ⟨rfl, hdX1_middleY⟩ rfl hl.1 rfl (Nat.le_of_ble_eq_true rfl) ⟨show dd + 1 ≤ 15 from by omega, show 8 + (3 + 11) + 64 * dd ≤ 64 * 15 from by omega⟩ dX0_middleY_4) (by omega) (by omega) [] ⟨0, 8, 11, 13⟩ [⟨0, 8, 14, 163⟩] hT (fun z9 h9 => absurd h9 List.not_mem_nil) (by decide) (by decide) q241 q337 fun q9 H1 hF1 => ?_
  refine pb_astore_n C dX0_middleY_11 rfl hl (by decide) rfl fun ls hl => ?_
  have hl : lv_has ls 4 [(3, .ref (q9)), (0, .ref (b)), (1, .int (iZ (a1))), (2, .ref (oL))] := hl
  refine pb_ic C dX0_middleY_12 ?_
  exact pb_iret C dX0_middleY_13 (⟨_, rfl, rfl, hF1⟩)

set_option maxHeartbeats 1000000 in
theorem mex_X0_middleY_2 {w : pb_W} (l : Launch) {H : Heap} (b oL : Nat) (fs : List Value) (hBo : pb_R w H b 0 fs) (a1 : Int) (dd mc ms : Nat) (hd : dd ≤ 14) (hM : pb_X w l yX1_middleY cX1_middleY 3 (some .double) dd mc ms [.ref b, .int (iZ a1)] H RJ21) : pb_MW w l yX0_middleY cX0_middleY 4 (some .int) [(0, 8, 11, 13), (0, 8, 14, 163)] 15 (mc) (ms) [.ref (b), .int (iZ (a1)), .ref (oL)] H (pb_qi (fun k H1 => k = 2 ∧ pb_F (fun _ => True) H H1)) := by
  refine pb_ofWH (by decide +kernel) (Nat.le_of_ble_eq_true rfl) ?_
  intro p_ e_ s_ m_ ar_ bl_ me_ co_ ls C hh hG hl hT hN
  have hl : lv_has ls 4 [(0, .ref (b)), (1, .int (iZ (a1))), (2, .ref (oL))] := hl
  refine pb_aload_n C dX0_middleY_0 rfl (lv_at hl 2 rfl) ?_
  refine pb_ic C dX0_middleY_1 ?_
  refine pb_aload_n C dX0_middleY_2 rfl (lv_at hl 0 rfl) ?_
  refine pb_iload_n C dX0_middleY_3 rfl (lv_at hl 1 rfl) ?_
  refine pb_catch (bc' := mc - mc) (bs' := ms - ms) C (pb_runVX (rest := [.int (iZ (0)), .ref (oL)]) C hG (hM) hBo (ci := 0) rfl (lw_V q1720 q1721 q1722 q51 q1723) ⟨rfl, hdX1_middleY⟩ rfl hl.1 rfl (Nat.le_of_ble_eq_true rfl) ⟨show dd + 1 ≤ 15 from by omega, show 8 + (3 + 11) + 64 * dd ≤ 64 * 15 from by omega⟩ dX0_middleY_4) (by omega) (by omega) [⟨0, 8, 11, 13⟩] ⟨0, 8, 14, 163⟩ [] hT (List.forall_mem_cons.mpr ⟨⟨by decide, "java/lang/IndexOutOfBoundsException", q241, hN ("java/lang/ArithmeticException", "java/lang/IndexOutOfBoundsException") (by decide)⟩, (fun z9 h9 => absurd h9 List.not_mem_nil)⟩) (by decide) (by decide) q1663 q1675 fun q9 H1 hF1 => ?_
  refine pb_astore_n C dX0_middleY_14 rfl hl (by decide) rfl fun ls hl => ?_
  have hl : lv_has ls 4 [(3, .ref (q9)), (0, .ref (b)), (1, .int (iZ (a1))), (2, .ref (oL))] := hl
  refine pb_ic C dX0_middleY_15 ?_
  exact pb_iret C dX0_middleY_16 (⟨_, rfl, rfl, hF1⟩)

set_option maxHeartbeats 1000000 in
theorem met_X0_fullness {w : pb_W} (l : Launch) {H : Heap} (b oL : Nat) (fs : List Value) (hBo : pb_R w H b 0 fs) (a1 : Int) (dd mc ms : Nat) (post : Value → Heap → Prop) (g0 : Nat → Value) (hd : dd ≤ 14) (hM : pb_M w l yX1_fullness cX1_fullness 5 (some .float) dd mc ms [.ref b, .int (iZ a1)] H (pb_qq post)) (hk : ∀ z H1, post z H1 → pb_F (fun q => q < w.2.2.2) H H1 ∧ H1[oL]? = H[oL]? ∧ ∃ v, z = .float v ∧ vf_n32 v) (hA : pb_A w H oL 3 1 g0) (hz : w.2.2.2 ≤ oL) : pb_MW w l yX0_fullness cX0_fullness 4 (some .int) [(0, 9, 12, 13), (0, 9, 15, 163)] 15 (mc) (ms) [.ref (b), .int (iZ (a1)), .ref (oL)] H (pb_qi (fun k H2 => k = 0 ∧ ∃ z H1 g v, post z H1 ∧ z = .float v ∧ pb_A w H2 oL 3 1 (updV g 0 (.double (FP.f2d v))) ∧ pb_Up oL H1 H2)) := by
  refine pb_ofWH (by decide +kernel) (Nat.le_of_ble_eq_true rfl) ?_
  intro p_ e_ s_ m_ ar_ bl_ me_ co_ ls C hh hG hl hT hN
  have hl : lv_has ls 4 [(0, .ref (b)), (1, .int (iZ (a1))), (2, .ref (oL))] := hl
  refine pb_aload_n C dX0_fullness_0 rfl (lv_at hl 2 rfl) ?_
  refine pb_ic C dX0_fullness_1 ?_
  refine pb_aload_n C dX0_fullness_2 rfl (lv_at hl 0 rfl) ?_
  refine pb_iload_n C dX0_fullness_3 rfl (lv_at hl 1 rfl) ?_
  refine pb_go_q (bc' := mc - mc) (bs' := ms - ms) (pb_runV (rest := [.int (iZ (0)), .ref (oL)]) C hG (hM) hBo (ci := 0) rfl (lw_V q1727 q1728 q1729 q51 q1730) ⟨rfl, hdX1_fullness⟩ rfl hl.1 rfl (Nat.le_of_ble_eq_true rfl) ⟨show dd + 1 ≤ 15 from by omega, show 8 + (5 + 11) + 64 * dd ≤ 64 * 15 from by omega⟩ dX0_fullness_4) (by omega) (by omega) (fun z_ H1 hp_ => ?_)
  obtain ⟨hF1, ho1, hzr⟩ := hk _ _ hp_
  have hG := hG.kept hF1
  have hA := hA.kept ho1
  obtain ⟨v9, rfl, hn9⟩ := hzr
  refine pb_f2dN C (fp_f2d hn9) dX0_fullness_7 ?_
  refine pb_dast C hA (i := 0) (by omega) (by omega) dX0_fullness_8 fun H1_ hu_ hA => ?_
  have hG := hG.kept (hu_.z (by omega))
  refine pb_goto C dX0_fullness_9 (tgt := 18) (by decide) ?_
  refine pb_ic C dX0_fullness_18 ?_
  exact pb_iret C dX0_fullness_19 (⟨_, rfl, rfl, _, _, _, _, hp_, rfl, hA, hu_⟩)

set_option maxHeartbeats 1000000 in
theorem mex_X0_fullness_1 {w : pb_W} (l : Launch) {H : Heap} (b oL : Nat) (fs : List Value) (hBo : pb_R w H b 0 fs) (a1 : Int) (dd mc ms : Nat) (hd : dd ≤ 14) (hM : pb_X w l yX1_fullness cX1_fullness 5 (some .float) dd mc ms [.ref b, .int (iZ a1)] H RJ9) : pb_MW w l yX0_fullness cX0_fullness 4 (some .int) [(0, 9, 12, 13), (0, 9, 15, 163)] 15 (mc) (ms) [.ref (b), .int (iZ (a1)), .ref (oL)] H (pb_qi (fun k H1 => k = 1 ∧ pb_F (fun _ => True) H H1)) := by
  refine pb_ofWH (by decide +kernel) (Nat.le_of_ble_eq_true rfl) ?_
  intro p_ e_ s_ m_ ar_ bl_ me_ co_ ls C hh hG hl hT hN
  have hl : lv_has ls 4 [(0, .ref (b)), (1, .int (iZ (a1))), (2, .ref (oL))] := hl
  refine pb_aload_n C dX0_fullness_0 rfl (lv_at hl 2 rfl) ?_
  refine pb_ic C dX0_fullness_1 ?_
  refine pb_aload_n C dX0_fullness_2 rfl (lv_at hl 0 rfl) ?_
  refine pb_iload_n C dX0_fullness_3 rfl (lv_at hl 1 rfl) ?_
  refine pb_catch (bc' := mc - mc) (bs' := ms - ms) C (pb_runVX (rest := [.int (iZ (0)), .ref (oL)]) C hG (hM) hBo (ci := 0) rfl (lw_V q1727 q1728 q1729 q51 q1730) ⟨rfl, hdX1_fullness⟩ rfl hl.1 rfl (Nat.le_of_ble_eq_true rfl) ⟨show dd + 1 ≤ 15 from by omega, show 8 + (5 + 11) + 64 * dd ≤ 64 * 15 from by omega⟩ dX0_fullness_4) (by omega) (by omega) [] ⟨0, 9, 12, 13⟩ [⟨0, 9, 15, 163⟩] hT (fun z9 h9 => absurd h9 List.not_mem_nil) (by decide) (by decide) q241 q337 fun q9 H1 hF1 => ?_
  refine pb_astore_n C dX0_fullness_12 rfl hl (by decide) rfl fun ls hl => ?_
  have hl : lv_has ls 4 [(3, .ref (q9)), (0, .ref (b)), (1, .int (iZ (a1))), (2, .ref (oL))] := hl
  refine pb_ic C dX0_fullness_13 ?_
  exact pb_iret C dX0_fullness_14 (⟨_, rfl, rfl, hF1⟩)

set_option maxHeartbeats 1000000 in
theorem mex_X0_fullness_2 {w : pb_W} (l : Launch) {H : Heap} (b oL : Nat) (fs : List Value) (hBo : pb_R w H b 0 fs) (a1 : Int) (dd mc ms : Nat) (hd : dd ≤ 14) (hM : pb_X w l yX1_fullness cX1_fullness 5 (some .float) dd mc ms [.ref b, .int (iZ a1)] H RJ21) : pb_MW w l yX0_fullness cX0_fullness 4 (some .int) [(0, 9, 12, 13), (0, 9, 15, 163)] 15 (mc) (ms) [.ref (b), .int (iZ (a1)), .ref (oL)] H (pb_qi (fun k H1 => k = 2 ∧ pb_F (fun _ => True) H H1)) := by
  refine pb_ofWH (by decide +kernel) (Nat.le_of_ble_eq_true rfl) ?_
  intro p_ e_ s_ m_ ar_ bl_ me_ co_ ls C hh hG hl hT hN
  have hl : lv_has ls 4 [(0, .ref (b)), (1, .int (iZ (a1))), (2, .ref (oL))] := hl
  refine pb_aload_n C dX0_fullness_0 rfl (lv_at hl 2 rfl) ?_
  refine pb_ic C dX0_fullness_1 ?_
  refine pb_aload_n C dX0_fullness_2 rfl (lv_at hl 0 rfl) ?_
  refine pb_iload_n C dX0_fullness_3 rfl (lv_at hl 1 rfl) ?_
  refine pb_catch (bc' := mc - mc) (bs' := ms - ms) C (pb_runVX (rest := [.int (iZ (0)), .ref (oL)]) C hG (hM) hBo (ci := 0) rfl (lw_V q1727 q1728 q1729 q51 q1730) ⟨rfl, hdX1_fullness⟩ rfl hl.1 rfl (Nat.le_of_ble_eq_true rfl) ⟨show dd + 1 ≤ 15 from by omega, show 8 + (5 + 11) + 64 * dd ≤ 64 * 15 from by omega⟩ dX0_fullness_4) (by omega) (by omega) [⟨0, 9, 12, 13⟩] ⟨0, 9, 15, 163⟩ [] hT (List.forall_mem_cons.mpr ⟨⟨by decide, "java/lang/IndexOutOfBoundsException", q241, hN ("java/lang/ArithmeticException", "java/lang/IndexOutOfBoundsException") (by decide)⟩, (fun z9 h9 => absurd h9 List.not_mem_nil)⟩) (by decide) (by decide) q1663 q1675 fun q9 H1 hF1 => ?_
  refine pb_astore_n C dX0_fullness_15 rfl hl (by decide) rfl fun ls hl => ?_
  have hl : lv_has ls 4 [(3, .ref (q9)), (0, .ref (b)), (1, .int (iZ (a1))), (2, .ref (oL))] := hl
  refine pb_ic C dX0_fullness_16 ?_
  exact pb_iret C dX0_fullness_17 (⟨_, rfl, rfl, hF1⟩)

